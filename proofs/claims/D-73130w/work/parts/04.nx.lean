/-! WidowRoads -/
set_option maxRecDepth 100000
def RX0 : String := "WidowRoads"
def TX0 : u_T := fun k => match k with
  | 0 => ("WidowRoads", "slots", "[LWidowRoads$Slot;", true)
  | 1 => ("WidowRoads", "now", "LWidowRoads$Colony;", false)
  | 2 => ("WidowRoads", "images", "[LWidowRoads$Colony;", true)
  | 3 => ("WidowRoads", "tape", "[B", true)
  | 4 => ("WidowRoads", "taped", "I", false)
  | 5 => ("WidowRoads", "faultKind", "I", false)
  | 6 => ("WidowRoads", "faultPlace", "I", false)
  | 7 => ("WidowRoads", "walks", "LWidowRoads$Walks;", true)
  | 8 => ("WidowRoads", "way", "LWidowRoads$Way;", true)
  | _ => ("WidowRoads", "faced", "LWidowRoads$Faced;", true)
def tyX0 : Nat → FieldType := fun k => match k with
  | 0 => .array (.object "WidowRoads$Slot")
  | 1 => .object "WidowRoads$Colony"
  | 2 => .array (.object "WidowRoads$Colony")
  | 3 => .array .byte
  | 4 => .int
  | 5 => .int
  | 6 => .int
  | 7 => .object "WidowRoads$Walks"
  | 8 => .object "WidowRoads$Way"
  | _ => .object "WidowRoads$Faced"
abbrev wsX00 : List Cond := u_ws RX0 TX0 10
theorem nmX0 : ∀ a, a < 10 → ∀ b, b < 10 → a ≠ b → (TX0 a).2.1 ≠ (TX0 b).2.1 := by decide +kernel
theorem tyX0_ok : ∀ k, k < 10 → parseFieldDescriptor (TX0 k).2.2.1 = some (tyX0 k) := by decide +kernel
abbrev cX0_row : ByteArray := prog_1_method_5_code
def yX0_row : MethodName := ⟨RX0, "row", "(III)I"⟩
def dkwX0_row_2 : List UInt8 := [16, 253, 172]
abbrev dktX0_row_2 : List UInt8 := dkwX0_row_2 ++ []
def dkwX0_row_1 : List UInt8 := [164, 0, 6, 16, 254, 172, 42, 180, 0, 19, 27, 50, 28, 29, 182, 0, 23, 153, 0, 7, 3, 167, 0, 5]
abbrev dktX0_row_1 : List UInt8 := dkwX0_row_1 ++ dktX0_row_2
def dkwX0_row_0 : List UInt8 := [27, 184, 0, 15, 153, 0, 21, 28, 133, 9, 20, 0, 9, 184, 0, 11, 153, 0, 9, 29, 16, 60]
abbrev dktX0_row_0 : List UInt8 := dkwX0_row_0 ++ dktX0_row_1
theorem dksX0_row_0 : cX0_row.data.toList.drop 0 = dktX0_row_0 := by decide +kernel
theorem dksX0_row_1 : cX0_row.data.toList.drop 22 = dktX0_row_1 := dk_seg dksX0_row_0 22 rfl rfl
theorem dksX0_row_2 : cX0_row.data.toList.drop 46 = dktX0_row_2 := dk_seg dksX0_row_1 24 rfl rfl
theorem dX0_row_0 : decode cX0_row 0 = .ok (.iload_n 1, 1) := dk_27 (dk_at dksX0_row_0 0 rfl rfl)
theorem dX0_row_1 : decode cX0_row 1 = .ok (.invokestatic 15, 3) := dk_184 0 15 (dk_at dksX0_row_0 1 rfl rfl)
theorem dX0_row_4 : decode cX0_row 4 = .ok (.ifCond .eq 21, 3) := dk_153 0 21 (dk_at dksX0_row_0 4 rfl rfl)
theorem dX0_row_7 : decode cX0_row 7 = .ok (.iload_n 2, 1) := dk_28 (dk_at dksX0_row_0 7 rfl rfl)
theorem dX0_row_8 : decode cX0_row 8 = .ok (.i2l, 1) := dk_133 (dk_at dksX0_row_0 8 rfl rfl)
theorem dX0_row_9 : decode cX0_row 9 = .ok (.lconst 0, 1) := dk_9 (dk_at dksX0_row_0 9 rfl rfl)
theorem dX0_row_10 : decode cX0_row 10 = .ok (.ldc2_w 9, 3) := dk_20 0 9 (dk_at dksX0_row_0 10 rfl rfl)
theorem dX0_row_13 : decode cX0_row 13 = .ok (.invokestatic 11, 3) := dk_184 0 11 (dk_at dksX0_row_0 13 rfl rfl)
theorem dX0_row_16 : decode cX0_row 16 = .ok (.ifCond .eq 9, 3) := dk_153 0 9 (dk_at dksX0_row_0 16 rfl rfl)
theorem dX0_row_19 : decode cX0_row 19 = .ok (.iload_n 3, 1) := dk_29 (dk_at dksX0_row_0 19 rfl rfl)
theorem dX0_row_20 : decode cX0_row 20 = .ok (.bipush 60, 2) := dk_16 60 (dk_at dksX0_row_0 20 rfl rfl)
theorem dX0_row_22 : decode cX0_row 22 = .ok (.if_icmp .le 6, 3) := dk_164 0 6 (dk_at dksX0_row_1 0 rfl rfl)
theorem dX0_row_25 : decode cX0_row 25 = .ok (.bipush (-2), 2) := dk_16 254 (dk_at dksX0_row_1 3 rfl rfl)
theorem dX0_row_27 : decode cX0_row 27 = .ok (.ireturn, 1) := dk_172 (dk_at dksX0_row_1 5 rfl rfl)
theorem dX0_row_28 : decode cX0_row 28 = .ok (.aload_n 0, 1) := dk_42 (dk_at dksX0_row_1 6 rfl rfl)
theorem dX0_row_29 : decode cX0_row 29 = .ok (.getfield 19, 3) := dk_180 0 19 (dk_at dksX0_row_1 7 rfl rfl)
theorem dX0_row_32 : decode cX0_row 32 = .ok (.iload_n 1, 1) := dk_27 (dk_at dksX0_row_1 10 rfl rfl)
theorem dX0_row_33 : decode cX0_row 33 = .ok (.aaload, 1) := dk_50 (dk_at dksX0_row_1 11 rfl rfl)
theorem dX0_row_34 : decode cX0_row 34 = .ok (.iload_n 2, 1) := dk_28 (dk_at dksX0_row_1 12 rfl rfl)
theorem dX0_row_35 : decode cX0_row 35 = .ok (.iload_n 3, 1) := dk_29 (dk_at dksX0_row_1 13 rfl rfl)
theorem dX0_row_36 : decode cX0_row 36 = .ok (.invokevirtual 23, 3) := dk_182 0 23 (dk_at dksX0_row_1 14 rfl rfl)
theorem dX0_row_39 : decode cX0_row 39 = .ok (.ifCond .eq 7, 3) := dk_153 0 7 (dk_at dksX0_row_1 17 rfl rfl)
theorem dX0_row_42 : decode cX0_row 42 = .ok (.iconst 0, 1) := dk_3 (dk_at dksX0_row_1 20 rfl rfl)
theorem dX0_row_43 : decode cX0_row 43 = .ok (.goto 5, 3) := dk_167 0 5 (dk_at dksX0_row_1 21 rfl rfl)
theorem dX0_row_46 : decode cX0_row 46 = .ok (.bipush (-3), 2) := dk_16 253 (dk_at dksX0_row_2 0 rfl rfl)
theorem dX0_row_48 : decode cX0_row 48 = .ok (.ireturn, 1) := dk_172 (dk_at dksX0_row_2 2 rfl rfl)
abbrev cX0_isSlot : ByteArray := prog_1_method_4_code
def yX0_isSlot : MethodName := ⟨RX0, "isSlot", "(I)Z"⟩
def dkwX0_isSlot_0 : List UInt8 := [26, 133, 9, 20, 0, 9, 184, 0, 11, 172]
abbrev dktX0_isSlot_0 : List UInt8 := dkwX0_isSlot_0 ++ []
theorem dksX0_isSlot_0 : cX0_isSlot.data.toList.drop 0 = dktX0_isSlot_0 := by decide +kernel
theorem dX0_isSlot_0 : decode cX0_isSlot 0 = .ok (.iload_n 0, 1) := dk_26 (dk_at dksX0_isSlot_0 0 rfl rfl)
theorem dX0_isSlot_1 : decode cX0_isSlot 1 = .ok (.i2l, 1) := dk_133 (dk_at dksX0_isSlot_0 1 rfl rfl)
theorem dX0_isSlot_2 : decode cX0_isSlot 2 = .ok (.lconst 0, 1) := dk_9 (dk_at dksX0_isSlot_0 2 rfl rfl)
theorem dX0_isSlot_3 : decode cX0_isSlot 3 = .ok (.ldc2_w 9, 3) := dk_20 0 9 (dk_at dksX0_isSlot_0 3 rfl rfl)
theorem dX0_isSlot_6 : decode cX0_isSlot 6 = .ok (.invokestatic 11, 3) := dk_184 0 11 (dk_at dksX0_isSlot_0 6 rfl rfl)
theorem dX0_isSlot_9 : decode cX0_isSlot 9 = .ok (.ireturn, 1) := dk_172 (dk_at dksX0_isSlot_0 9 rfl rfl)
abbrev cX0_in : ByteArray := prog_1_method_1_code
def yX0_in : MethodName := ⟨RX0, "in", "(JJJ)Z"⟩
def dkwX0_in_0 : List UInt8 := [30, 32, 148, 155, 0, 14, 30, 22, 4, 148, 157, 0, 7, 4, 167, 0, 4, 3, 172]
abbrev dktX0_in_0 : List UInt8 := dkwX0_in_0 ++ []
theorem dksX0_in_0 : cX0_in.data.toList.drop 0 = dktX0_in_0 := by decide +kernel
theorem dX0_in_0 : decode cX0_in 0 = .ok (.lload_n 0, 1) := dk_30 (dk_at dksX0_in_0 0 rfl rfl)
theorem dX0_in_1 : decode cX0_in 1 = .ok (.lload_n 2, 1) := dk_32 (dk_at dksX0_in_0 1 rfl rfl)
theorem dX0_in_2 : decode cX0_in 2 = .ok (.lcmp, 1) := dk_148 (dk_at dksX0_in_0 2 rfl rfl)
theorem dX0_in_3 : decode cX0_in 3 = .ok (.ifCond .lt 14, 3) := dk_155 0 14 (dk_at dksX0_in_0 3 rfl rfl)
theorem dX0_in_6 : decode cX0_in 6 = .ok (.lload_n 0, 1) := dk_30 (dk_at dksX0_in_0 6 rfl rfl)
theorem dX0_in_7 : decode cX0_in 7 = .ok (.lload 4, 2) := dk_22 4 (dk_at dksX0_in_0 7 rfl rfl)
theorem dX0_in_9 : decode cX0_in 9 = .ok (.lcmp, 1) := dk_148 (dk_at dksX0_in_0 9 rfl rfl)
theorem dX0_in_10 : decode cX0_in 10 = .ok (.ifCond .gt 7, 3) := dk_157 0 7 (dk_at dksX0_in_0 10 rfl rfl)
theorem dX0_in_13 : decode cX0_in 13 = .ok (.iconst 1, 1) := dk_4 (dk_at dksX0_in_0 13 rfl rfl)
theorem dX0_in_14 : decode cX0_in 14 = .ok (.goto 4, 3) := dk_167 0 4 (dk_at dksX0_in_0 14 rfl rfl)
theorem dX0_in_17 : decode cX0_in 17 = .ok (.iconst 0, 1) := dk_3 (dk_at dksX0_in_0 17 rfl rfl)
theorem dX0_in_18 : decode cX0_in 18 = .ok (.ireturn, 1) := dk_172 (dk_at dksX0_in_0 18 rfl rfl)
abbrev cX0_write : ByteArray := prog_1_method_6_code
def yX0_write : MethodName := ⟨RX0, "write", "(IIJ)I"⟩
def dkwX0_write_0 : List UInt8 := [27, 184, 0, 15, 153, 0, 17, 42, 180, 0, 19, 27, 50, 28, 33, 182, 0, 29, 167, 0, 5, 16, 254, 172]
abbrev dktX0_write_0 : List UInt8 := dkwX0_write_0 ++ []
theorem dksX0_write_0 : cX0_write.data.toList.drop 0 = dktX0_write_0 := by decide +kernel
theorem dX0_write_0 : decode cX0_write 0 = .ok (.iload_n 1, 1) := dk_27 (dk_at dksX0_write_0 0 rfl rfl)
theorem dX0_write_1 : decode cX0_write 1 = .ok (.invokestatic 15, 3) := dk_184 0 15 (dk_at dksX0_write_0 1 rfl rfl)
theorem dX0_write_4 : decode cX0_write 4 = .ok (.ifCond .eq 17, 3) := dk_153 0 17 (dk_at dksX0_write_0 4 rfl rfl)
theorem dX0_write_7 : decode cX0_write 7 = .ok (.aload_n 0, 1) := dk_42 (dk_at dksX0_write_0 7 rfl rfl)
theorem dX0_write_8 : decode cX0_write 8 = .ok (.getfield 19, 3) := dk_180 0 19 (dk_at dksX0_write_0 8 rfl rfl)
theorem dX0_write_11 : decode cX0_write 11 = .ok (.iload_n 1, 1) := dk_27 (dk_at dksX0_write_0 11 rfl rfl)
theorem dX0_write_12 : decode cX0_write 12 = .ok (.aaload, 1) := dk_50 (dk_at dksX0_write_0 12 rfl rfl)
theorem dX0_write_13 : decode cX0_write 13 = .ok (.iload_n 2, 1) := dk_28 (dk_at dksX0_write_0 13 rfl rfl)
theorem dX0_write_14 : decode cX0_write 14 = .ok (.lload_n 3, 1) := dk_33 (dk_at dksX0_write_0 14 rfl rfl)
theorem dX0_write_15 : decode cX0_write 15 = .ok (.invokevirtual 29, 3) := dk_182 0 29 (dk_at dksX0_write_0 15 rfl rfl)
theorem dX0_write_18 : decode cX0_write 18 = .ok (.goto 5, 3) := dk_167 0 5 (dk_at dksX0_write_0 18 rfl rfl)
theorem dX0_write_21 : decode cX0_write 21 = .ok (.bipush (-2), 2) := dk_16 254 (dk_at dksX0_write_0 21 rfl rfl)
theorem dX0_write_23 : decode cX0_write 23 = .ok (.ireturn, 1) := dk_172 (dk_at dksX0_write_0 23 rfl rfl)
abbrev cX0_paste : ByteArray := prog_1_method_7_code
def yX0_paste : MethodName := ⟨RX0, "paste", "(IIIII)I"⟩
def dkwX0_paste_1 : List UInt8 := [180, 0, 19, 29, 50, 21, 4, 21, 5, 182, 0, 33, 167, 0, 5, 16, 254, 172]
abbrev dktX0_paste_1 : List UInt8 := dkwX0_paste_1 ++ []
def dkwX0_paste_0 : List UInt8 := [27, 184, 0, 15, 153, 0, 33, 29, 184, 0, 15, 153, 0, 26, 42, 180, 0, 19, 27, 50, 28, 42]
abbrev dktX0_paste_0 : List UInt8 := dkwX0_paste_0 ++ dktX0_paste_1
theorem dksX0_paste_0 : cX0_paste.data.toList.drop 0 = dktX0_paste_0 := by decide +kernel
theorem dksX0_paste_1 : cX0_paste.data.toList.drop 22 = dktX0_paste_1 := dk_seg dksX0_paste_0 22 rfl rfl
theorem dX0_paste_0 : decode cX0_paste 0 = .ok (.iload_n 1, 1) := dk_27 (dk_at dksX0_paste_0 0 rfl rfl)
theorem dX0_paste_1 : decode cX0_paste 1 = .ok (.invokestatic 15, 3) := dk_184 0 15 (dk_at dksX0_paste_0 1 rfl rfl)
theorem dX0_paste_4 : decode cX0_paste 4 = .ok (.ifCond .eq 33, 3) := dk_153 0 33 (dk_at dksX0_paste_0 4 rfl rfl)
theorem dX0_paste_7 : decode cX0_paste 7 = .ok (.iload_n 3, 1) := dk_29 (dk_at dksX0_paste_0 7 rfl rfl)
theorem dX0_paste_8 : decode cX0_paste 8 = .ok (.invokestatic 15, 3) := dk_184 0 15 (dk_at dksX0_paste_0 8 rfl rfl)
theorem dX0_paste_11 : decode cX0_paste 11 = .ok (.ifCond .eq 26, 3) := dk_153 0 26 (dk_at dksX0_paste_0 11 rfl rfl)
theorem dX0_paste_14 : decode cX0_paste 14 = .ok (.aload_n 0, 1) := dk_42 (dk_at dksX0_paste_0 14 rfl rfl)
theorem dX0_paste_15 : decode cX0_paste 15 = .ok (.getfield 19, 3) := dk_180 0 19 (dk_at dksX0_paste_0 15 rfl rfl)
theorem dX0_paste_18 : decode cX0_paste 18 = .ok (.iload_n 1, 1) := dk_27 (dk_at dksX0_paste_0 18 rfl rfl)
theorem dX0_paste_19 : decode cX0_paste 19 = .ok (.aaload, 1) := dk_50 (dk_at dksX0_paste_0 19 rfl rfl)
theorem dX0_paste_20 : decode cX0_paste 20 = .ok (.iload_n 2, 1) := dk_28 (dk_at dksX0_paste_0 20 rfl rfl)
theorem dX0_paste_21 : decode cX0_paste 21 = .ok (.aload_n 0, 1) := dk_42 (dk_at dksX0_paste_0 21 rfl rfl)
theorem dX0_paste_22 : decode cX0_paste 22 = .ok (.getfield 19, 3) := dk_180 0 19 (dk_at dksX0_paste_1 0 rfl rfl)
theorem dX0_paste_25 : decode cX0_paste 25 = .ok (.iload_n 3, 1) := dk_29 (dk_at dksX0_paste_1 3 rfl rfl)
theorem dX0_paste_26 : decode cX0_paste 26 = .ok (.aaload, 1) := dk_50 (dk_at dksX0_paste_1 4 rfl rfl)
theorem dX0_paste_27 : decode cX0_paste 27 = .ok (.iload 4, 2) := dk_21 4 (dk_at dksX0_paste_1 5 rfl rfl)
theorem dX0_paste_29 : decode cX0_paste 29 = .ok (.iload 5, 2) := dk_21 5 (dk_at dksX0_paste_1 7 rfl rfl)
theorem dX0_paste_31 : decode cX0_paste 31 = .ok (.invokevirtual 33, 3) := dk_182 0 33 (dk_at dksX0_paste_1 9 rfl rfl)
theorem dX0_paste_34 : decode cX0_paste 34 = .ok (.goto 5, 3) := dk_167 0 5 (dk_at dksX0_paste_1 12 rfl rfl)
theorem dX0_paste_37 : decode cX0_paste 37 = .ok (.bipush (-2), 2) := dk_16 254 (dk_at dksX0_paste_1 15 rfl rfl)
theorem dX0_paste_39 : decode cX0_paste 39 = .ok (.ireturn, 1) := dk_172 (dk_at dksX0_paste_1 17 rfl rfl)
abbrev cX0_init : ByteArray := prog_1_method_8_code
def yX0_init : MethodName := ⟨RX0, "<init>", "()V"⟩
def dkwX0_init_5 : List UInt8 := [181, 0, 82, 177]
abbrev dktX0_init_5 : List UInt8 := dkwX0_init_5 ++ []
def dkwX0_init_4 : List UInt8 := [181, 0, 68, 42, 187, 0, 72, 89, 42, 183, 0, 74, 181, 0, 75, 42, 187, 0, 79, 89, 42, 183, 0, 81]
abbrev dktX0_init_4 : List UInt8 := dkwX0_init_4 ++ dktX0_init_5
def dkwX0_init_3 : List UInt8 := [17, 3, 132, 188, 8, 181, 0, 55, 42, 2, 181, 0, 59, 42, 187, 0, 63, 89, 42, 183, 0, 65]
abbrev dktX0_init_3 : List UInt8 := dkwX0_init_3 ++ dktX0_init_4
def dkwX0_init_2 : List UInt8 := [83, 181, 0, 19, 42, 187, 0, 44, 89, 183, 0, 46, 181, 0, 47, 42, 6, 189, 0, 44, 181, 0, 51, 42]
abbrev dktX0_init_2 : List UInt8 := dkwX0_init_2 ++ dktX0_init_3
def dkwX0_init_1 : List UInt8 := [89, 183, 0, 43, 83, 89, 5, 187, 0, 24, 89, 183, 0, 43, 83, 89, 6, 187, 0, 24, 89, 183, 0, 43]
abbrev dktX0_init_1 : List UInt8 := dkwX0_init_1 ++ dktX0_init_2
def dkwX0_init_0 : List UInt8 := [42, 183, 0, 37, 42, 7, 189, 0, 24, 89, 3, 187, 0, 24, 89, 183, 0, 43, 83, 89, 4, 187, 0, 24]
abbrev dktX0_init_0 : List UInt8 := dkwX0_init_0 ++ dktX0_init_1
theorem dksX0_init_0 : cX0_init.data.toList.drop 0 = dktX0_init_0 := by decide +kernel
theorem dksX0_init_1 : cX0_init.data.toList.drop 24 = dktX0_init_1 := dk_seg dksX0_init_0 24 rfl rfl
theorem dksX0_init_2 : cX0_init.data.toList.drop 48 = dktX0_init_2 := dk_seg dksX0_init_1 24 rfl rfl
theorem dksX0_init_3 : cX0_init.data.toList.drop 72 = dktX0_init_3 := dk_seg dksX0_init_2 24 rfl rfl
theorem dksX0_init_4 : cX0_init.data.toList.drop 94 = dktX0_init_4 := dk_seg dksX0_init_3 22 rfl rfl
theorem dksX0_init_5 : cX0_init.data.toList.drop 118 = dktX0_init_5 := dk_seg dksX0_init_4 24 rfl rfl
theorem dX0_init_0 : decode cX0_init 0 = .ok (.aload_n 0, 1) := dk_42 (dk_at dksX0_init_0 0 rfl rfl)
theorem dX0_init_1 : decode cX0_init 1 = .ok (.invokespecial 37, 3) := dk_183 0 37 (dk_at dksX0_init_0 1 rfl rfl)
theorem dX0_init_4 : decode cX0_init 4 = .ok (.aload_n 0, 1) := dk_42 (dk_at dksX0_init_0 4 rfl rfl)
theorem dX0_init_5 : decode cX0_init 5 = .ok (.iconst 4, 1) := dk_7 (dk_at dksX0_init_0 5 rfl rfl)
theorem dX0_init_6 : decode cX0_init 6 = .ok (.anewarray 24, 3) := dk_189 0 24 (dk_at dksX0_init_0 6 rfl rfl)
theorem dX0_init_9 : decode cX0_init 9 = .ok (.dup, 1) := dk_89 (dk_at dksX0_init_0 9 rfl rfl)
theorem dX0_init_10 : decode cX0_init 10 = .ok (.iconst 0, 1) := dk_3 (dk_at dksX0_init_0 10 rfl rfl)
theorem dX0_init_11 : decode cX0_init 11 = .ok (.new 24, 3) := dk_187 0 24 (dk_at dksX0_init_0 11 rfl rfl)
theorem dX0_init_14 : decode cX0_init 14 = .ok (.dup, 1) := dk_89 (dk_at dksX0_init_0 14 rfl rfl)
theorem dX0_init_15 : decode cX0_init 15 = .ok (.invokespecial 43, 3) := dk_183 0 43 (dk_at dksX0_init_0 15 rfl rfl)
theorem dX0_init_18 : decode cX0_init 18 = .ok (.aastore, 1) := dk_83 (dk_at dksX0_init_0 18 rfl rfl)
theorem dX0_init_19 : decode cX0_init 19 = .ok (.dup, 1) := dk_89 (dk_at dksX0_init_0 19 rfl rfl)
theorem dX0_init_20 : decode cX0_init 20 = .ok (.iconst 1, 1) := dk_4 (dk_at dksX0_init_0 20 rfl rfl)
theorem dX0_init_21 : decode cX0_init 21 = .ok (.new 24, 3) := dk_187 0 24 (dk_at dksX0_init_0 21 rfl rfl)
theorem dX0_init_24 : decode cX0_init 24 = .ok (.dup, 1) := dk_89 (dk_at dksX0_init_1 0 rfl rfl)
theorem dX0_init_25 : decode cX0_init 25 = .ok (.invokespecial 43, 3) := dk_183 0 43 (dk_at dksX0_init_1 1 rfl rfl)
theorem dX0_init_28 : decode cX0_init 28 = .ok (.aastore, 1) := dk_83 (dk_at dksX0_init_1 4 rfl rfl)
theorem dX0_init_29 : decode cX0_init 29 = .ok (.dup, 1) := dk_89 (dk_at dksX0_init_1 5 rfl rfl)
theorem dX0_init_30 : decode cX0_init 30 = .ok (.iconst 2, 1) := dk_5 (dk_at dksX0_init_1 6 rfl rfl)
theorem dX0_init_31 : decode cX0_init 31 = .ok (.new 24, 3) := dk_187 0 24 (dk_at dksX0_init_1 7 rfl rfl)
theorem dX0_init_34 : decode cX0_init 34 = .ok (.dup, 1) := dk_89 (dk_at dksX0_init_1 10 rfl rfl)
theorem dX0_init_35 : decode cX0_init 35 = .ok (.invokespecial 43, 3) := dk_183 0 43 (dk_at dksX0_init_1 11 rfl rfl)
theorem dX0_init_38 : decode cX0_init 38 = .ok (.aastore, 1) := dk_83 (dk_at dksX0_init_1 14 rfl rfl)
theorem dX0_init_39 : decode cX0_init 39 = .ok (.dup, 1) := dk_89 (dk_at dksX0_init_1 15 rfl rfl)
theorem dX0_init_40 : decode cX0_init 40 = .ok (.iconst 3, 1) := dk_6 (dk_at dksX0_init_1 16 rfl rfl)
theorem dX0_init_41 : decode cX0_init 41 = .ok (.new 24, 3) := dk_187 0 24 (dk_at dksX0_init_1 17 rfl rfl)
theorem dX0_init_44 : decode cX0_init 44 = .ok (.dup, 1) := dk_89 (dk_at dksX0_init_1 20 rfl rfl)
theorem dX0_init_45 : decode cX0_init 45 = .ok (.invokespecial 43, 3) := dk_183 0 43 (dk_at dksX0_init_1 21 rfl rfl)
theorem dX0_init_48 : decode cX0_init 48 = .ok (.aastore, 1) := dk_83 (dk_at dksX0_init_2 0 rfl rfl)
theorem dX0_init_49 : decode cX0_init 49 = .ok (.putfield 19, 3) := dk_181 0 19 (dk_at dksX0_init_2 1 rfl rfl)
theorem dX0_init_52 : decode cX0_init 52 = .ok (.aload_n 0, 1) := dk_42 (dk_at dksX0_init_2 4 rfl rfl)
theorem dX0_init_53 : decode cX0_init 53 = .ok (.new 44, 3) := dk_187 0 44 (dk_at dksX0_init_2 5 rfl rfl)
theorem dX0_init_56 : decode cX0_init 56 = .ok (.dup, 1) := dk_89 (dk_at dksX0_init_2 8 rfl rfl)
theorem dX0_init_57 : decode cX0_init 57 = .ok (.invokespecial 46, 3) := dk_183 0 46 (dk_at dksX0_init_2 9 rfl rfl)
theorem dX0_init_60 : decode cX0_init 60 = .ok (.putfield 47, 3) := dk_181 0 47 (dk_at dksX0_init_2 12 rfl rfl)
theorem dX0_init_63 : decode cX0_init 63 = .ok (.aload_n 0, 1) := dk_42 (dk_at dksX0_init_2 15 rfl rfl)
theorem dX0_init_64 : decode cX0_init 64 = .ok (.iconst 3, 1) := dk_6 (dk_at dksX0_init_2 16 rfl rfl)
theorem dX0_init_65 : decode cX0_init 65 = .ok (.anewarray 44, 3) := dk_189 0 44 (dk_at dksX0_init_2 17 rfl rfl)
theorem dX0_init_68 : decode cX0_init 68 = .ok (.putfield 51, 3) := dk_181 0 51 (dk_at dksX0_init_2 20 rfl rfl)
theorem dX0_init_71 : decode cX0_init 71 = .ok (.aload_n 0, 1) := dk_42 (dk_at dksX0_init_2 23 rfl rfl)
theorem dX0_init_72 : decode cX0_init 72 = .ok (.sipush 900, 3) := dk_17 3 132 (dk_at dksX0_init_3 0 rfl rfl)
theorem dX0_init_75 : decode cX0_init 75 = .ok (.newarray .byte, 2) := dk_188_8 (dk_at dksX0_init_3 3 rfl rfl)
theorem dX0_init_77 : decode cX0_init 77 = .ok (.putfield 55, 3) := dk_181 0 55 (dk_at dksX0_init_3 5 rfl rfl)
theorem dX0_init_80 : decode cX0_init 80 = .ok (.aload_n 0, 1) := dk_42 (dk_at dksX0_init_3 8 rfl rfl)
theorem dX0_init_81 : decode cX0_init 81 = .ok (.iconst (-1), 1) := dk_2 (dk_at dksX0_init_3 9 rfl rfl)
theorem dX0_init_82 : decode cX0_init 82 = .ok (.putfield 59, 3) := dk_181 0 59 (dk_at dksX0_init_3 10 rfl rfl)
theorem dX0_init_85 : decode cX0_init 85 = .ok (.aload_n 0, 1) := dk_42 (dk_at dksX0_init_3 13 rfl rfl)
theorem dX0_init_86 : decode cX0_init 86 = .ok (.new 63, 3) := dk_187 0 63 (dk_at dksX0_init_3 14 rfl rfl)
theorem dX0_init_89 : decode cX0_init 89 = .ok (.dup, 1) := dk_89 (dk_at dksX0_init_3 17 rfl rfl)
theorem dX0_init_90 : decode cX0_init 90 = .ok (.aload_n 0, 1) := dk_42 (dk_at dksX0_init_3 18 rfl rfl)
theorem dX0_init_91 : decode cX0_init 91 = .ok (.invokespecial 65, 3) := dk_183 0 65 (dk_at dksX0_init_3 19 rfl rfl)
theorem dX0_init_94 : decode cX0_init 94 = .ok (.putfield 68, 3) := dk_181 0 68 (dk_at dksX0_init_4 0 rfl rfl)
theorem dX0_init_97 : decode cX0_init 97 = .ok (.aload_n 0, 1) := dk_42 (dk_at dksX0_init_4 3 rfl rfl)
theorem dX0_init_98 : decode cX0_init 98 = .ok (.new 72, 3) := dk_187 0 72 (dk_at dksX0_init_4 4 rfl rfl)
theorem dX0_init_101 : decode cX0_init 101 = .ok (.dup, 1) := dk_89 (dk_at dksX0_init_4 7 rfl rfl)
theorem dX0_init_102 : decode cX0_init 102 = .ok (.aload_n 0, 1) := dk_42 (dk_at dksX0_init_4 8 rfl rfl)
theorem dX0_init_103 : decode cX0_init 103 = .ok (.invokespecial 74, 3) := dk_183 0 74 (dk_at dksX0_init_4 9 rfl rfl)
theorem dX0_init_106 : decode cX0_init 106 = .ok (.putfield 75, 3) := dk_181 0 75 (dk_at dksX0_init_4 12 rfl rfl)
theorem dX0_init_109 : decode cX0_init 109 = .ok (.aload_n 0, 1) := dk_42 (dk_at dksX0_init_4 15 rfl rfl)
theorem dX0_init_110 : decode cX0_init 110 = .ok (.new 79, 3) := dk_187 0 79 (dk_at dksX0_init_4 16 rfl rfl)
theorem dX0_init_113 : decode cX0_init 113 = .ok (.dup, 1) := dk_89 (dk_at dksX0_init_4 19 rfl rfl)
theorem dX0_init_114 : decode cX0_init 114 = .ok (.aload_n 0, 1) := dk_42 (dk_at dksX0_init_4 20 rfl rfl)
theorem dX0_init_115 : decode cX0_init 115 = .ok (.invokespecial 81, 3) := dk_183 0 81 (dk_at dksX0_init_4 21 rfl rfl)
theorem dX0_init_118 : decode cX0_init 118 = .ok (.putfield 82, 3) := dk_181 0 82 (dk_at dksX0_init_5 0 rfl rfl)
theorem dX0_init_121 : decode cX0_init 121 = .ok (.return_, 1) := dk_177 (dk_at dksX0_init_5 3 rfl rfl)
abbrev cX0_feed : ByteArray := prog_1_method_9_code
def yX0_feed : MethodName := ⟨RX0, "feed", "(IIIII)I"⟩
def dkwX0_feed_4 : List UInt8 := [16, 20, 96, 181, 0, 86, 42, 180, 0, 86, 172]
abbrev dktX0_feed_4 : List UInt8 := dkwX0_feed_4 ++ []
def dkwX0_feed_3 : List UInt8 := [16, 24, 16, 8, 21, 7, 7, 112, 104, 100, 122, 145, 84, 132, 7, 1, 167, 255, 215, 42, 89, 180, 0, 86]
abbrev dktX0_feed_3 : List UInt8 := dkwX0_feed_3 ++ dktX0_feed_4
def dkwX0_feed_2 : List UInt8 := [16, 20, 162, 0, 40, 42, 180, 0, 55, 42, 180, 0, 86, 21, 7, 96, 25, 6, 21, 7, 7, 108, 46]
abbrev dktX0_feed_2 : List UInt8 := dkwX0_feed_2 ++ dktX0_feed_3
def dkwX0_feed_1 : List UInt8 := [28, 79, 89, 5, 29, 79, 89, 6, 21, 4, 79, 89, 7, 21, 5, 79, 58, 6, 3, 54, 7, 21, 7]
abbrev dktX0_feed_1 : List UInt8 := dkwX0_feed_1 ++ dktX0_feed_2
def dkwX0_feed_0 : List UInt8 := [42, 180, 0, 86, 16, 20, 96, 17, 3, 132, 164, 0, 5, 2, 172, 8, 188, 10, 89, 3, 27, 79, 89, 4]
abbrev dktX0_feed_0 : List UInt8 := dkwX0_feed_0 ++ dktX0_feed_1
theorem dksX0_feed_0 : cX0_feed.data.toList.drop 0 = dktX0_feed_0 := by decide +kernel
theorem dksX0_feed_1 : cX0_feed.data.toList.drop 24 = dktX0_feed_1 := dk_seg dksX0_feed_0 24 rfl rfl
theorem dksX0_feed_2 : cX0_feed.data.toList.drop 47 = dktX0_feed_2 := dk_seg dksX0_feed_1 23 rfl rfl
theorem dksX0_feed_3 : cX0_feed.data.toList.drop 70 = dktX0_feed_3 := dk_seg dksX0_feed_2 23 rfl rfl
theorem dksX0_feed_4 : cX0_feed.data.toList.drop 94 = dktX0_feed_4 := dk_seg dksX0_feed_3 24 rfl rfl
theorem dX0_feed_0 : decode cX0_feed 0 = .ok (.aload_n 0, 1) := dk_42 (dk_at dksX0_feed_0 0 rfl rfl)
theorem dX0_feed_1 : decode cX0_feed 1 = .ok (.getfield 86, 3) := dk_180 0 86 (dk_at dksX0_feed_0 1 rfl rfl)
theorem dX0_feed_4 : decode cX0_feed 4 = .ok (.bipush 20, 2) := dk_16 20 (dk_at dksX0_feed_0 4 rfl rfl)
theorem dX0_feed_6 : decode cX0_feed 6 = .ok (.iadd, 1) := dk_96 (dk_at dksX0_feed_0 6 rfl rfl)
theorem dX0_feed_7 : decode cX0_feed 7 = .ok (.sipush 900, 3) := dk_17 3 132 (dk_at dksX0_feed_0 7 rfl rfl)
theorem dX0_feed_10 : decode cX0_feed 10 = .ok (.if_icmp .le 5, 3) := dk_164 0 5 (dk_at dksX0_feed_0 10 rfl rfl)
theorem dX0_feed_13 : decode cX0_feed 13 = .ok (.iconst (-1), 1) := dk_2 (dk_at dksX0_feed_0 13 rfl rfl)
theorem dX0_feed_14 : decode cX0_feed 14 = .ok (.ireturn, 1) := dk_172 (dk_at dksX0_feed_0 14 rfl rfl)
theorem dX0_feed_15 : decode cX0_feed 15 = .ok (.iconst 5, 1) := dk_8 (dk_at dksX0_feed_0 15 rfl rfl)
theorem dX0_feed_16 : decode cX0_feed 16 = .ok (.newarray .int, 2) := dk_188_10 (dk_at dksX0_feed_0 16 rfl rfl)
theorem dX0_feed_18 : decode cX0_feed 18 = .ok (.dup, 1) := dk_89 (dk_at dksX0_feed_0 18 rfl rfl)
theorem dX0_feed_19 : decode cX0_feed 19 = .ok (.iconst 0, 1) := dk_3 (dk_at dksX0_feed_0 19 rfl rfl)
theorem dX0_feed_20 : decode cX0_feed 20 = .ok (.iload_n 1, 1) := dk_27 (dk_at dksX0_feed_0 20 rfl rfl)
theorem dX0_feed_21 : decode cX0_feed 21 = .ok (.iastore, 1) := dk_79 (dk_at dksX0_feed_0 21 rfl rfl)
theorem dX0_feed_22 : decode cX0_feed 22 = .ok (.dup, 1) := dk_89 (dk_at dksX0_feed_0 22 rfl rfl)
theorem dX0_feed_23 : decode cX0_feed 23 = .ok (.iconst 1, 1) := dk_4 (dk_at dksX0_feed_0 23 rfl rfl)
theorem dX0_feed_24 : decode cX0_feed 24 = .ok (.iload_n 2, 1) := dk_28 (dk_at dksX0_feed_1 0 rfl rfl)
theorem dX0_feed_25 : decode cX0_feed 25 = .ok (.iastore, 1) := dk_79 (dk_at dksX0_feed_1 1 rfl rfl)
theorem dX0_feed_26 : decode cX0_feed 26 = .ok (.dup, 1) := dk_89 (dk_at dksX0_feed_1 2 rfl rfl)
theorem dX0_feed_27 : decode cX0_feed 27 = .ok (.iconst 2, 1) := dk_5 (dk_at dksX0_feed_1 3 rfl rfl)
theorem dX0_feed_28 : decode cX0_feed 28 = .ok (.iload_n 3, 1) := dk_29 (dk_at dksX0_feed_1 4 rfl rfl)
theorem dX0_feed_29 : decode cX0_feed 29 = .ok (.iastore, 1) := dk_79 (dk_at dksX0_feed_1 5 rfl rfl)
theorem dX0_feed_30 : decode cX0_feed 30 = .ok (.dup, 1) := dk_89 (dk_at dksX0_feed_1 6 rfl rfl)
theorem dX0_feed_31 : decode cX0_feed 31 = .ok (.iconst 3, 1) := dk_6 (dk_at dksX0_feed_1 7 rfl rfl)
theorem dX0_feed_32 : decode cX0_feed 32 = .ok (.iload 4, 2) := dk_21 4 (dk_at dksX0_feed_1 8 rfl rfl)
theorem dX0_feed_34 : decode cX0_feed 34 = .ok (.iastore, 1) := dk_79 (dk_at dksX0_feed_1 10 rfl rfl)
theorem dX0_feed_35 : decode cX0_feed 35 = .ok (.dup, 1) := dk_89 (dk_at dksX0_feed_1 11 rfl rfl)
theorem dX0_feed_36 : decode cX0_feed 36 = .ok (.iconst 4, 1) := dk_7 (dk_at dksX0_feed_1 12 rfl rfl)
theorem dX0_feed_37 : decode cX0_feed 37 = .ok (.iload 5, 2) := dk_21 5 (dk_at dksX0_feed_1 13 rfl rfl)
theorem dX0_feed_39 : decode cX0_feed 39 = .ok (.iastore, 1) := dk_79 (dk_at dksX0_feed_1 15 rfl rfl)
theorem dX0_feed_40 : decode cX0_feed 40 = .ok (.astore 6, 2) := dk_58 6 (dk_at dksX0_feed_1 16 rfl rfl)
theorem dX0_feed_42 : decode cX0_feed 42 = .ok (.iconst 0, 1) := dk_3 (dk_at dksX0_feed_1 18 rfl rfl)
theorem dX0_feed_43 : decode cX0_feed 43 = .ok (.istore 7, 2) := dk_54 7 (dk_at dksX0_feed_1 19 rfl rfl)
theorem dX0_feed_45 : decode cX0_feed 45 = .ok (.iload 7, 2) := dk_21 7 (dk_at dksX0_feed_1 21 rfl rfl)
theorem dX0_feed_47 : decode cX0_feed 47 = .ok (.bipush 20, 2) := dk_16 20 (dk_at dksX0_feed_2 0 rfl rfl)
theorem dX0_feed_49 : decode cX0_feed 49 = .ok (.if_icmp .ge 40, 3) := dk_162 0 40 (dk_at dksX0_feed_2 2 rfl rfl)
theorem dX0_feed_52 : decode cX0_feed 52 = .ok (.aload_n 0, 1) := dk_42 (dk_at dksX0_feed_2 5 rfl rfl)
theorem dX0_feed_53 : decode cX0_feed 53 = .ok (.getfield 55, 3) := dk_180 0 55 (dk_at dksX0_feed_2 6 rfl rfl)
theorem dX0_feed_56 : decode cX0_feed 56 = .ok (.aload_n 0, 1) := dk_42 (dk_at dksX0_feed_2 9 rfl rfl)
theorem dX0_feed_57 : decode cX0_feed 57 = .ok (.getfield 86, 3) := dk_180 0 86 (dk_at dksX0_feed_2 10 rfl rfl)
theorem dX0_feed_60 : decode cX0_feed 60 = .ok (.iload 7, 2) := dk_21 7 (dk_at dksX0_feed_2 13 rfl rfl)
theorem dX0_feed_62 : decode cX0_feed 62 = .ok (.iadd, 1) := dk_96 (dk_at dksX0_feed_2 15 rfl rfl)
theorem dX0_feed_63 : decode cX0_feed 63 = .ok (.aload 6, 2) := dk_25 6 (dk_at dksX0_feed_2 16 rfl rfl)
theorem dX0_feed_65 : decode cX0_feed 65 = .ok (.iload 7, 2) := dk_21 7 (dk_at dksX0_feed_2 18 rfl rfl)
theorem dX0_feed_67 : decode cX0_feed 67 = .ok (.iconst 4, 1) := dk_7 (dk_at dksX0_feed_2 20 rfl rfl)
theorem dX0_feed_68 : decode cX0_feed 68 = .ok (.idiv, 1) := dk_108 (dk_at dksX0_feed_2 21 rfl rfl)
theorem dX0_feed_69 : decode cX0_feed 69 = .ok (.iaload, 1) := dk_46 (dk_at dksX0_feed_2 22 rfl rfl)
theorem dX0_feed_70 : decode cX0_feed 70 = .ok (.bipush 24, 2) := dk_16 24 (dk_at dksX0_feed_3 0 rfl rfl)
theorem dX0_feed_72 : decode cX0_feed 72 = .ok (.bipush 8, 2) := dk_16 8 (dk_at dksX0_feed_3 2 rfl rfl)
theorem dX0_feed_74 : decode cX0_feed 74 = .ok (.iload 7, 2) := dk_21 7 (dk_at dksX0_feed_3 4 rfl rfl)
theorem dX0_feed_76 : decode cX0_feed 76 = .ok (.iconst 4, 1) := dk_7 (dk_at dksX0_feed_3 6 rfl rfl)
theorem dX0_feed_77 : decode cX0_feed 77 = .ok (.irem, 1) := dk_112 (dk_at dksX0_feed_3 7 rfl rfl)
theorem dX0_feed_78 : decode cX0_feed 78 = .ok (.imul, 1) := dk_104 (dk_at dksX0_feed_3 8 rfl rfl)
theorem dX0_feed_79 : decode cX0_feed 79 = .ok (.isub, 1) := dk_100 (dk_at dksX0_feed_3 9 rfl rfl)
theorem dX0_feed_80 : decode cX0_feed 80 = .ok (.ishr, 1) := dk_122 (dk_at dksX0_feed_3 10 rfl rfl)
theorem dX0_feed_81 : decode cX0_feed 81 = .ok (.i2b, 1) := dk_145 (dk_at dksX0_feed_3 11 rfl rfl)
theorem dX0_feed_82 : decode cX0_feed 82 = .ok (.bastore, 1) := dk_84 (dk_at dksX0_feed_3 12 rfl rfl)
theorem dX0_feed_83 : decode cX0_feed 83 = .ok (.iinc 7 1, 3) := dk_132 7 1 (dk_at dksX0_feed_3 13 rfl rfl)
theorem dX0_feed_86 : decode cX0_feed 86 = .ok (.goto (-41), 3) := dk_167 255 215 (dk_at dksX0_feed_3 16 rfl rfl)
theorem dX0_feed_89 : decode cX0_feed 89 = .ok (.aload_n 0, 1) := dk_42 (dk_at dksX0_feed_3 19 rfl rfl)
theorem dX0_feed_90 : decode cX0_feed 90 = .ok (.dup, 1) := dk_89 (dk_at dksX0_feed_3 20 rfl rfl)
theorem dX0_feed_91 : decode cX0_feed 91 = .ok (.getfield 86, 3) := dk_180 0 86 (dk_at dksX0_feed_3 21 rfl rfl)
theorem dX0_feed_94 : decode cX0_feed 94 = .ok (.bipush 20, 2) := dk_16 20 (dk_at dksX0_feed_4 0 rfl rfl)
theorem dX0_feed_96 : decode cX0_feed 96 = .ok (.iadd, 1) := dk_96 (dk_at dksX0_feed_4 2 rfl rfl)
theorem dX0_feed_97 : decode cX0_feed 97 = .ok (.putfield 86, 3) := dk_181 0 86 (dk_at dksX0_feed_4 3 rfl rfl)
theorem dX0_feed_100 : decode cX0_feed 100 = .ok (.aload_n 0, 1) := dk_42 (dk_at dksX0_feed_4 6 rfl rfl)
theorem dX0_feed_101 : decode cX0_feed 101 = .ok (.getfield 86, 3) := dk_180 0 86 (dk_at dksX0_feed_4 7 rfl rfl)
theorem dX0_feed_104 : decode cX0_feed 104 = .ok (.ireturn, 1) := dk_172 (dk_at dksX0_feed_4 10 rfl rfl)
abbrev cX0_end : ByteArray := prog_1_method_10_code
def yX0_end : MethodName := ⟨RX0, "end", "(I)I"⟩
def dkwX0_end_0 : List UInt8 := [27, 133, 9, 42, 180, 0, 86, 133, 184, 0, 11, 154, 0, 5, 2, 172, 42, 27, 181, 0, 86, 27, 172]
abbrev dktX0_end_0 : List UInt8 := dkwX0_end_0 ++ []
theorem dksX0_end_0 : cX0_end.data.toList.drop 0 = dktX0_end_0 := by decide +kernel
theorem dX0_end_0 : decode cX0_end 0 = .ok (.iload_n 1, 1) := dk_27 (dk_at dksX0_end_0 0 rfl rfl)
theorem dX0_end_1 : decode cX0_end 1 = .ok (.i2l, 1) := dk_133 (dk_at dksX0_end_0 1 rfl rfl)
theorem dX0_end_2 : decode cX0_end 2 = .ok (.lconst 0, 1) := dk_9 (dk_at dksX0_end_0 2 rfl rfl)
theorem dX0_end_3 : decode cX0_end 3 = .ok (.aload_n 0, 1) := dk_42 (dk_at dksX0_end_0 3 rfl rfl)
theorem dX0_end_4 : decode cX0_end 4 = .ok (.getfield 86, 3) := dk_180 0 86 (dk_at dksX0_end_0 4 rfl rfl)
theorem dX0_end_7 : decode cX0_end 7 = .ok (.i2l, 1) := dk_133 (dk_at dksX0_end_0 7 rfl rfl)
theorem dX0_end_8 : decode cX0_end 8 = .ok (.invokestatic 11, 3) := dk_184 0 11 (dk_at dksX0_end_0 8 rfl rfl)
theorem dX0_end_11 : decode cX0_end 11 = .ok (.ifCond .ne 5, 3) := dk_154 0 5 (dk_at dksX0_end_0 11 rfl rfl)
theorem dX0_end_14 : decode cX0_end 14 = .ok (.iconst (-1), 1) := dk_2 (dk_at dksX0_end_0 14 rfl rfl)
theorem dX0_end_15 : decode cX0_end 15 = .ok (.ireturn, 1) := dk_172 (dk_at dksX0_end_0 15 rfl rfl)
theorem dX0_end_16 : decode cX0_end 16 = .ok (.aload_n 0, 1) := dk_42 (dk_at dksX0_end_0 16 rfl rfl)
theorem dX0_end_17 : decode cX0_end 17 = .ok (.iload_n 1, 1) := dk_27 (dk_at dksX0_end_0 17 rfl rfl)
theorem dX0_end_18 : decode cX0_end 18 = .ok (.putfield 86, 3) := dk_181 0 86 (dk_at dksX0_end_0 18 rfl rfl)
theorem dX0_end_21 : decode cX0_end 21 = .ok (.iload_n 1, 1) := dk_27 (dk_at dksX0_end_0 21 rfl rfl)
theorem dX0_end_22 : decode cX0_end 22 = .ok (.ireturn, 1) := dk_172 (dk_at dksX0_end_0 22 rfl rfl)
abbrev cX0_colony : ByteArray := prog_1_method_11_code
def yX0_colony : MethodName := ⟨RX0, "colony", "()I"⟩
def dkwX0_colony_4 : List UInt8 := [181, 0, 86, 45, 191]
abbrev dktX0_colony_4 : List UInt8 := dkwX0_colony_4 ++ []
def dkwX0_colony_3 : List UInt8 := [181, 0, 102, 42, 43, 180, 0, 113, 181, 0, 59, 16, 252, 61, 42, 3, 181, 0, 86, 28, 172, 78, 42, 3]
abbrev dktX0_colony_3 : List UInt8 := dkwX0_colony_3 ++ dktX0_colony_4
def dkwX0_colony_2 : List UInt8 := [181, 0, 59, 42, 180, 0, 47, 180, 0, 105, 61, 42, 3, 181, 0, 86, 28, 172, 76, 42, 43, 180, 0, 110]
abbrev dktX0_colony_2 : List UInt8 := dkwX0_colony_2 ++ dktX0_colony_3
def dkwX0_colony_1 : List UInt8 := [153, 0, 7, 43, 167, 0, 10, 187, 0, 44, 89, 183, 0, 46, 181, 0, 47, 42, 3, 181, 0, 102, 42, 2]
abbrev dktX0_colony_1 : List UInt8 := dkwX0_colony_1 ++ dktX0_colony_2
def dkwX0_colony_0 : List UInt8 := [187, 0, 89, 89, 42, 180, 0, 55, 42, 180, 0, 86, 183, 0, 91, 182, 0, 94, 76, 42, 43, 182, 0, 98]
abbrev dktX0_colony_0 : List UInt8 := dkwX0_colony_0 ++ dktX0_colony_1
theorem dksX0_colony_0 : cX0_colony.data.toList.drop 0 = dktX0_colony_0 := by decide +kernel
theorem dksX0_colony_1 : cX0_colony.data.toList.drop 24 = dktX0_colony_1 := dk_seg dksX0_colony_0 24 rfl rfl
theorem dksX0_colony_2 : cX0_colony.data.toList.drop 48 = dktX0_colony_2 := dk_seg dksX0_colony_1 24 rfl rfl
theorem dksX0_colony_3 : cX0_colony.data.toList.drop 72 = dktX0_colony_3 := dk_seg dksX0_colony_2 24 rfl rfl
theorem dksX0_colony_4 : cX0_colony.data.toList.drop 96 = dktX0_colony_4 := dk_seg dksX0_colony_3 24 rfl rfl
theorem dX0_colony_0 : decode cX0_colony 0 = .ok (.new 89, 3) := dk_187 0 89 (dk_at dksX0_colony_0 0 rfl rfl)
theorem dX0_colony_3 : decode cX0_colony 3 = .ok (.dup, 1) := dk_89 (dk_at dksX0_colony_0 3 rfl rfl)
theorem dX0_colony_4 : decode cX0_colony 4 = .ok (.aload_n 0, 1) := dk_42 (dk_at dksX0_colony_0 4 rfl rfl)
theorem dX0_colony_5 : decode cX0_colony 5 = .ok (.getfield 55, 3) := dk_180 0 55 (dk_at dksX0_colony_0 5 rfl rfl)
theorem dX0_colony_8 : decode cX0_colony 8 = .ok (.aload_n 0, 1) := dk_42 (dk_at dksX0_colony_0 8 rfl rfl)
theorem dX0_colony_9 : decode cX0_colony 9 = .ok (.getfield 86, 3) := dk_180 0 86 (dk_at dksX0_colony_0 9 rfl rfl)
theorem dX0_colony_12 : decode cX0_colony 12 = .ok (.invokespecial 91, 3) := dk_183 0 91 (dk_at dksX0_colony_0 12 rfl rfl)
theorem dX0_colony_15 : decode cX0_colony 15 = .ok (.invokevirtual 94, 3) := dk_182 0 94 (dk_at dksX0_colony_0 15 rfl rfl)
theorem dX0_colony_18 : decode cX0_colony 18 = .ok (.astore_n 1, 1) := dk_76 (dk_at dksX0_colony_0 18 rfl rfl)
theorem dX0_colony_19 : decode cX0_colony 19 = .ok (.aload_n 0, 1) := dk_42 (dk_at dksX0_colony_0 19 rfl rfl)
theorem dX0_colony_20 : decode cX0_colony 20 = .ok (.aload_n 1, 1) := dk_43 (dk_at dksX0_colony_0 20 rfl rfl)
theorem dX0_colony_21 : decode cX0_colony 21 = .ok (.invokevirtual 98, 3) := dk_182 0 98 (dk_at dksX0_colony_0 21 rfl rfl)
theorem dX0_colony_24 : decode cX0_colony 24 = .ok (.ifCond .eq 7, 3) := dk_153 0 7 (dk_at dksX0_colony_1 0 rfl rfl)
theorem dX0_colony_27 : decode cX0_colony 27 = .ok (.aload_n 1, 1) := dk_43 (dk_at dksX0_colony_1 3 rfl rfl)
theorem dX0_colony_28 : decode cX0_colony 28 = .ok (.goto 10, 3) := dk_167 0 10 (dk_at dksX0_colony_1 4 rfl rfl)
theorem dX0_colony_31 : decode cX0_colony 31 = .ok (.new 44, 3) := dk_187 0 44 (dk_at dksX0_colony_1 7 rfl rfl)
theorem dX0_colony_34 : decode cX0_colony 34 = .ok (.dup, 1) := dk_89 (dk_at dksX0_colony_1 10 rfl rfl)
theorem dX0_colony_35 : decode cX0_colony 35 = .ok (.invokespecial 46, 3) := dk_183 0 46 (dk_at dksX0_colony_1 11 rfl rfl)
theorem dX0_colony_38 : decode cX0_colony 38 = .ok (.putfield 47, 3) := dk_181 0 47 (dk_at dksX0_colony_1 14 rfl rfl)
theorem dX0_colony_41 : decode cX0_colony 41 = .ok (.aload_n 0, 1) := dk_42 (dk_at dksX0_colony_1 17 rfl rfl)
theorem dX0_colony_42 : decode cX0_colony 42 = .ok (.iconst 0, 1) := dk_3 (dk_at dksX0_colony_1 18 rfl rfl)
theorem dX0_colony_43 : decode cX0_colony 43 = .ok (.putfield 102, 3) := dk_181 0 102 (dk_at dksX0_colony_1 19 rfl rfl)
theorem dX0_colony_46 : decode cX0_colony 46 = .ok (.aload_n 0, 1) := dk_42 (dk_at dksX0_colony_1 22 rfl rfl)
theorem dX0_colony_47 : decode cX0_colony 47 = .ok (.iconst (-1), 1) := dk_2 (dk_at dksX0_colony_1 23 rfl rfl)
theorem dX0_colony_48 : decode cX0_colony 48 = .ok (.putfield 59, 3) := dk_181 0 59 (dk_at dksX0_colony_2 0 rfl rfl)
theorem dX0_colony_51 : decode cX0_colony 51 = .ok (.aload_n 0, 1) := dk_42 (dk_at dksX0_colony_2 3 rfl rfl)
theorem dX0_colony_52 : decode cX0_colony 52 = .ok (.getfield 47, 3) := dk_180 0 47 (dk_at dksX0_colony_2 4 rfl rfl)
theorem dX0_colony_55 : decode cX0_colony 55 = .ok (.getfield 105, 3) := dk_180 0 105 (dk_at dksX0_colony_2 7 rfl rfl)
theorem dX0_colony_58 : decode cX0_colony 58 = .ok (.istore_n 2, 1) := dk_61 (dk_at dksX0_colony_2 10 rfl rfl)
theorem dX0_colony_59 : decode cX0_colony 59 = .ok (.aload_n 0, 1) := dk_42 (dk_at dksX0_colony_2 11 rfl rfl)
theorem dX0_colony_60 : decode cX0_colony 60 = .ok (.iconst 0, 1) := dk_3 (dk_at dksX0_colony_2 12 rfl rfl)
theorem dX0_colony_61 : decode cX0_colony 61 = .ok (.putfield 86, 3) := dk_181 0 86 (dk_at dksX0_colony_2 13 rfl rfl)
theorem dX0_colony_64 : decode cX0_colony 64 = .ok (.iload_n 2, 1) := dk_28 (dk_at dksX0_colony_2 16 rfl rfl)
theorem dX0_colony_65 : decode cX0_colony 65 = .ok (.ireturn, 1) := dk_172 (dk_at dksX0_colony_2 17 rfl rfl)
theorem dX0_colony_66 : decode cX0_colony 66 = .ok (.astore_n 1, 1) := dk_76 (dk_at dksX0_colony_2 18 rfl rfl)
theorem dX0_colony_67 : decode cX0_colony 67 = .ok (.aload_n 0, 1) := dk_42 (dk_at dksX0_colony_2 19 rfl rfl)
theorem dX0_colony_68 : decode cX0_colony 68 = .ok (.aload_n 1, 1) := dk_43 (dk_at dksX0_colony_2 20 rfl rfl)
theorem dX0_colony_69 : decode cX0_colony 69 = .ok (.getfield 110, 3) := dk_180 0 110 (dk_at dksX0_colony_2 21 rfl rfl)
theorem dX0_colony_72 : decode cX0_colony 72 = .ok (.putfield 102, 3) := dk_181 0 102 (dk_at dksX0_colony_3 0 rfl rfl)
theorem dX0_colony_75 : decode cX0_colony 75 = .ok (.aload_n 0, 1) := dk_42 (dk_at dksX0_colony_3 3 rfl rfl)
theorem dX0_colony_76 : decode cX0_colony 76 = .ok (.aload_n 1, 1) := dk_43 (dk_at dksX0_colony_3 4 rfl rfl)
theorem dX0_colony_77 : decode cX0_colony 77 = .ok (.getfield 113, 3) := dk_180 0 113 (dk_at dksX0_colony_3 5 rfl rfl)
theorem dX0_colony_80 : decode cX0_colony 80 = .ok (.putfield 59, 3) := dk_181 0 59 (dk_at dksX0_colony_3 8 rfl rfl)
theorem dX0_colony_83 : decode cX0_colony 83 = .ok (.bipush (-4), 2) := dk_16 252 (dk_at dksX0_colony_3 11 rfl rfl)
theorem dX0_colony_85 : decode cX0_colony 85 = .ok (.istore_n 2, 1) := dk_61 (dk_at dksX0_colony_3 13 rfl rfl)
theorem dX0_colony_86 : decode cX0_colony 86 = .ok (.aload_n 0, 1) := dk_42 (dk_at dksX0_colony_3 14 rfl rfl)
theorem dX0_colony_87 : decode cX0_colony 87 = .ok (.iconst 0, 1) := dk_3 (dk_at dksX0_colony_3 15 rfl rfl)
theorem dX0_colony_88 : decode cX0_colony 88 = .ok (.putfield 86, 3) := dk_181 0 86 (dk_at dksX0_colony_3 16 rfl rfl)
theorem dX0_colony_91 : decode cX0_colony 91 = .ok (.iload_n 2, 1) := dk_28 (dk_at dksX0_colony_3 19 rfl rfl)
theorem dX0_colony_92 : decode cX0_colony 92 = .ok (.ireturn, 1) := dk_172 (dk_at dksX0_colony_3 20 rfl rfl)
theorem dX0_colony_93 : decode cX0_colony 93 = .ok (.astore_n 3, 1) := dk_78 (dk_at dksX0_colony_3 21 rfl rfl)
theorem dX0_colony_94 : decode cX0_colony 94 = .ok (.aload_n 0, 1) := dk_42 (dk_at dksX0_colony_3 22 rfl rfl)
theorem dX0_colony_95 : decode cX0_colony 95 = .ok (.iconst 0, 1) := dk_3 (dk_at dksX0_colony_3 23 rfl rfl)
theorem dX0_colony_96 : decode cX0_colony 96 = .ok (.putfield 86, 3) := dk_181 0 86 (dk_at dksX0_colony_4 0 rfl rfl)
theorem dX0_colony_99 : decode cX0_colony 99 = .ok (.aload_n 3, 1) := dk_45 (dk_at dksX0_colony_4 3 rfl rfl)
theorem dX0_colony_100 : decode cX0_colony 100 = .ok (.athrow, 1) := dk_191 (dk_at dksX0_colony_4 4 rfl rfl)
abbrev cX0_fault : ByteArray := prog_1_method_12_code
def yX0_fault : MethodName := ⟨RX0, "fault", "(I)I"⟩
def dkwX0_fault_1 : List UInt8 := [172]
abbrev dktX0_fault_1 : List UInt8 := dkwX0_fault_1 ++ []
def dkwX0_fault_0 : List UInt8 := [27, 154, 0, 10, 42, 180, 0, 102, 167, 0, 16, 27, 4, 160, 0, 10, 42, 180, 0, 59, 167, 0, 4, 2]
abbrev dktX0_fault_0 : List UInt8 := dkwX0_fault_0 ++ dktX0_fault_1
theorem dksX0_fault_0 : cX0_fault.data.toList.drop 0 = dktX0_fault_0 := by decide +kernel
theorem dksX0_fault_1 : cX0_fault.data.toList.drop 24 = dktX0_fault_1 := dk_seg dksX0_fault_0 24 rfl rfl
theorem dX0_fault_0 : decode cX0_fault 0 = .ok (.iload_n 1, 1) := dk_27 (dk_at dksX0_fault_0 0 rfl rfl)
theorem dX0_fault_1 : decode cX0_fault 1 = .ok (.ifCond .ne 10, 3) := dk_154 0 10 (dk_at dksX0_fault_0 1 rfl rfl)
theorem dX0_fault_4 : decode cX0_fault 4 = .ok (.aload_n 0, 1) := dk_42 (dk_at dksX0_fault_0 4 rfl rfl)
theorem dX0_fault_5 : decode cX0_fault 5 = .ok (.getfield 102, 3) := dk_180 0 102 (dk_at dksX0_fault_0 5 rfl rfl)
theorem dX0_fault_8 : decode cX0_fault 8 = .ok (.goto 16, 3) := dk_167 0 16 (dk_at dksX0_fault_0 8 rfl rfl)
theorem dX0_fault_11 : decode cX0_fault 11 = .ok (.iload_n 1, 1) := dk_27 (dk_at dksX0_fault_0 11 rfl rfl)
theorem dX0_fault_12 : decode cX0_fault 12 = .ok (.iconst 1, 1) := dk_4 (dk_at dksX0_fault_0 12 rfl rfl)
theorem dX0_fault_13 : decode cX0_fault 13 = .ok (.if_icmp .ne 10, 3) := dk_160 0 10 (dk_at dksX0_fault_0 13 rfl rfl)
theorem dX0_fault_16 : decode cX0_fault 16 = .ok (.aload_n 0, 1) := dk_42 (dk_at dksX0_fault_0 16 rfl rfl)
theorem dX0_fault_17 : decode cX0_fault 17 = .ok (.getfield 59, 3) := dk_180 0 59 (dk_at dksX0_fault_0 17 rfl rfl)
theorem dX0_fault_20 : decode cX0_fault 20 = .ok (.goto 4, 3) := dk_167 0 4 (dk_at dksX0_fault_0 20 rfl rfl)
theorem dX0_fault_23 : decode cX0_fault 23 = .ok (.iconst (-1), 1) := dk_2 (dk_at dksX0_fault_0 23 rfl rfl)
theorem dX0_fault_24 : decode cX0_fault 24 = .ok (.ireturn, 1) := dk_172 (dk_at dksX0_fault_1 0 rfl rfl)
abbrev cX0_evening : ByteArray := prog_1_method_29_code
def yX0_evening : MethodName := ⟨RX0, "evening", "(I)I"⟩
def dkwX0_evening_3 : List UInt8 := [46, 2, 159, 0, 9, 4, 29, 120, 167, 0, 4, 3, 128, 61, 132, 3, 1, 167, 255, 210, 28, 172]
abbrev dktX0_evening_3 : List UInt8 := dkwX0_evening_3 ++ []
def dkwX0_evening_2 : List UInt8 := [162, 0, 44, 28, 42, 29, 182, 0, 195, 180, 0, 199, 27, 160, 0, 22, 42, 180, 0, 68, 180, 0, 202, 29]
abbrev dktX0_evening_2 : List UInt8 := dkwX0_evening_2 ++ dktX0_evening_3
def dkwX0_evening_1 : List UInt8 := [184, 0, 11, 154, 0, 6, 16, 254, 172, 42, 182, 0, 194, 87, 3, 61, 3, 62, 29, 42, 182, 0, 126]
abbrev dktX0_evening_1 : List UInt8 := dkwX0_evening_1 ++ dktX0_evening_2
def dkwX0_evening_0 : List UInt8 := [42, 180, 0, 47, 182, 0, 98, 153, 0, 22, 27, 133, 9, 42, 180, 0, 47, 180, 0, 142, 4, 100, 133]
abbrev dktX0_evening_0 : List UInt8 := dkwX0_evening_0 ++ dktX0_evening_1
theorem dksX0_evening_0 : cX0_evening.data.toList.drop 0 = dktX0_evening_0 := by decide +kernel
theorem dksX0_evening_1 : cX0_evening.data.toList.drop 23 = dktX0_evening_1 := dk_seg dksX0_evening_0 23 rfl rfl
theorem dksX0_evening_2 : cX0_evening.data.toList.drop 46 = dktX0_evening_2 := dk_seg dksX0_evening_1 23 rfl rfl
theorem dksX0_evening_3 : cX0_evening.data.toList.drop 70 = dktX0_evening_3 := dk_seg dksX0_evening_2 24 rfl rfl
theorem dX0_evening_0 : decode cX0_evening 0 = .ok (.aload_n 0, 1) := dk_42 (dk_at dksX0_evening_0 0 rfl rfl)
theorem dX0_evening_1 : decode cX0_evening 1 = .ok (.getfield 47, 3) := dk_180 0 47 (dk_at dksX0_evening_0 1 rfl rfl)
theorem dX0_evening_4 : decode cX0_evening 4 = .ok (.invokevirtual 98, 3) := dk_182 0 98 (dk_at dksX0_evening_0 4 rfl rfl)
theorem dX0_evening_7 : decode cX0_evening 7 = .ok (.ifCond .eq 22, 3) := dk_153 0 22 (dk_at dksX0_evening_0 7 rfl rfl)
theorem dX0_evening_10 : decode cX0_evening 10 = .ok (.iload_n 1, 1) := dk_27 (dk_at dksX0_evening_0 10 rfl rfl)
theorem dX0_evening_11 : decode cX0_evening 11 = .ok (.i2l, 1) := dk_133 (dk_at dksX0_evening_0 11 rfl rfl)
theorem dX0_evening_12 : decode cX0_evening 12 = .ok (.lconst 0, 1) := dk_9 (dk_at dksX0_evening_0 12 rfl rfl)
theorem dX0_evening_13 : decode cX0_evening 13 = .ok (.aload_n 0, 1) := dk_42 (dk_at dksX0_evening_0 13 rfl rfl)
theorem dX0_evening_14 : decode cX0_evening 14 = .ok (.getfield 47, 3) := dk_180 0 47 (dk_at dksX0_evening_0 14 rfl rfl)
theorem dX0_evening_17 : decode cX0_evening 17 = .ok (.getfield 142, 3) := dk_180 0 142 (dk_at dksX0_evening_0 17 rfl rfl)
theorem dX0_evening_20 : decode cX0_evening 20 = .ok (.iconst 1, 1) := dk_4 (dk_at dksX0_evening_0 20 rfl rfl)
theorem dX0_evening_21 : decode cX0_evening 21 = .ok (.isub, 1) := dk_100 (dk_at dksX0_evening_0 21 rfl rfl)
theorem dX0_evening_22 : decode cX0_evening 22 = .ok (.i2l, 1) := dk_133 (dk_at dksX0_evening_0 22 rfl rfl)
theorem dX0_evening_23 : decode cX0_evening 23 = .ok (.invokestatic 11, 3) := dk_184 0 11 (dk_at dksX0_evening_1 0 rfl rfl)
theorem dX0_evening_26 : decode cX0_evening 26 = .ok (.ifCond .ne 6, 3) := dk_154 0 6 (dk_at dksX0_evening_1 3 rfl rfl)
theorem dX0_evening_29 : decode cX0_evening 29 = .ok (.bipush (-2), 2) := dk_16 254 (dk_at dksX0_evening_1 6 rfl rfl)
theorem dX0_evening_31 : decode cX0_evening 31 = .ok (.ireturn, 1) := dk_172 (dk_at dksX0_evening_1 8 rfl rfl)
theorem dX0_evening_32 : decode cX0_evening 32 = .ok (.aload_n 0, 1) := dk_42 (dk_at dksX0_evening_1 9 rfl rfl)
theorem dX0_evening_33 : decode cX0_evening 33 = .ok (.invokevirtual 194, 3) := dk_182 0 194 (dk_at dksX0_evening_1 10 rfl rfl)
theorem dX0_evening_36 : decode cX0_evening 36 = .ok (.pop, 1) := dk_87 (dk_at dksX0_evening_1 13 rfl rfl)
theorem dX0_evening_37 : decode cX0_evening 37 = .ok (.iconst 0, 1) := dk_3 (dk_at dksX0_evening_1 14 rfl rfl)
theorem dX0_evening_38 : decode cX0_evening 38 = .ok (.istore_n 2, 1) := dk_61 (dk_at dksX0_evening_1 15 rfl rfl)
theorem dX0_evening_39 : decode cX0_evening 39 = .ok (.iconst 0, 1) := dk_3 (dk_at dksX0_evening_1 16 rfl rfl)
theorem dX0_evening_40 : decode cX0_evening 40 = .ok (.istore_n 3, 1) := dk_62 (dk_at dksX0_evening_1 17 rfl rfl)
theorem dX0_evening_41 : decode cX0_evening 41 = .ok (.iload_n 3, 1) := dk_29 (dk_at dksX0_evening_1 18 rfl rfl)
theorem dX0_evening_42 : decode cX0_evening 42 = .ok (.aload_n 0, 1) := dk_42 (dk_at dksX0_evening_1 19 rfl rfl)
theorem dX0_evening_43 : decode cX0_evening 43 = .ok (.invokevirtual 126, 3) := dk_182 0 126 (dk_at dksX0_evening_1 20 rfl rfl)
theorem dX0_evening_46 : decode cX0_evening 46 = .ok (.if_icmp .ge 44, 3) := dk_162 0 44 (dk_at dksX0_evening_2 0 rfl rfl)
theorem dX0_evening_49 : decode cX0_evening 49 = .ok (.iload_n 2, 1) := dk_28 (dk_at dksX0_evening_2 3 rfl rfl)
theorem dX0_evening_50 : decode cX0_evening 50 = .ok (.aload_n 0, 1) := dk_42 (dk_at dksX0_evening_2 4 rfl rfl)
theorem dX0_evening_51 : decode cX0_evening 51 = .ok (.iload_n 3, 1) := dk_29 (dk_at dksX0_evening_2 5 rfl rfl)
theorem dX0_evening_52 : decode cX0_evening 52 = .ok (.invokevirtual 195, 3) := dk_182 0 195 (dk_at dksX0_evening_2 6 rfl rfl)
theorem dX0_evening_55 : decode cX0_evening 55 = .ok (.getfield 199, 3) := dk_180 0 199 (dk_at dksX0_evening_2 9 rfl rfl)
theorem dX0_evening_58 : decode cX0_evening 58 = .ok (.iload_n 1, 1) := dk_27 (dk_at dksX0_evening_2 12 rfl rfl)
theorem dX0_evening_59 : decode cX0_evening 59 = .ok (.if_icmp .ne 22, 3) := dk_160 0 22 (dk_at dksX0_evening_2 13 rfl rfl)
theorem dX0_evening_62 : decode cX0_evening 62 = .ok (.aload_n 0, 1) := dk_42 (dk_at dksX0_evening_2 16 rfl rfl)
theorem dX0_evening_63 : decode cX0_evening 63 = .ok (.getfield 68, 3) := dk_180 0 68 (dk_at dksX0_evening_2 17 rfl rfl)
theorem dX0_evening_66 : decode cX0_evening 66 = .ok (.getfield 202, 3) := dk_180 0 202 (dk_at dksX0_evening_2 20 rfl rfl)
theorem dX0_evening_69 : decode cX0_evening 69 = .ok (.iload_n 3, 1) := dk_29 (dk_at dksX0_evening_2 23 rfl rfl)
theorem dX0_evening_70 : decode cX0_evening 70 = .ok (.iaload, 1) := dk_46 (dk_at dksX0_evening_3 0 rfl rfl)
theorem dX0_evening_71 : decode cX0_evening 71 = .ok (.iconst (-1), 1) := dk_2 (dk_at dksX0_evening_3 1 rfl rfl)
theorem dX0_evening_72 : decode cX0_evening 72 = .ok (.if_icmp .eq 9, 3) := dk_159 0 9 (dk_at dksX0_evening_3 2 rfl rfl)
theorem dX0_evening_75 : decode cX0_evening 75 = .ok (.iconst 1, 1) := dk_4 (dk_at dksX0_evening_3 5 rfl rfl)
theorem dX0_evening_76 : decode cX0_evening 76 = .ok (.iload_n 3, 1) := dk_29 (dk_at dksX0_evening_3 6 rfl rfl)
theorem dX0_evening_77 : decode cX0_evening 77 = .ok (.ishl, 1) := dk_120 (dk_at dksX0_evening_3 7 rfl rfl)
theorem dX0_evening_78 : decode cX0_evening 78 = .ok (.goto 4, 3) := dk_167 0 4 (dk_at dksX0_evening_3 8 rfl rfl)
theorem dX0_evening_81 : decode cX0_evening 81 = .ok (.iconst 0, 1) := dk_3 (dk_at dksX0_evening_3 11 rfl rfl)
theorem dX0_evening_82 : decode cX0_evening 82 = .ok (.ior, 1) := dk_128 (dk_at dksX0_evening_3 12 rfl rfl)
theorem dX0_evening_83 : decode cX0_evening 83 = .ok (.istore_n 2, 1) := dk_61 (dk_at dksX0_evening_3 13 rfl rfl)
theorem dX0_evening_84 : decode cX0_evening 84 = .ok (.iinc 3 1, 3) := dk_132 3 1 (dk_at dksX0_evening_3 14 rfl rfl)
theorem dX0_evening_87 : decode cX0_evening 87 = .ok (.goto (-46), 3) := dk_167 255 210 (dk_at dksX0_evening_3 17 rfl rfl)
theorem dX0_evening_90 : decode cX0_evening 90 = .ok (.iload_n 2, 1) := dk_28 (dk_at dksX0_evening_3 20 rfl rfl)
theorem dX0_evening_91 : decode cX0_evening 91 = .ok (.ireturn, 1) := dk_172 (dk_at dksX0_evening_3 21 rfl rfl)
abbrev cX0_is : ByteArray := prog_1_method_28_code
def yX0_is : MethodName := ⟨RX0, "is", "()LWidowRoads$Walks;"⟩
def dkwX0_is_0 : List UInt8 := [42, 180, 0, 68, 182, 0, 188, 182, 0, 191, 176]
abbrev dktX0_is_0 : List UInt8 := dkwX0_is_0 ++ []
theorem dksX0_is_0 : cX0_is.data.toList.drop 0 = dktX0_is_0 := by decide +kernel
theorem dX0_is_0 : decode cX0_is 0 = .ok (.aload_n 0, 1) := dk_42 (dk_at dksX0_is_0 0 rfl rfl)
theorem dX0_is_1 : decode cX0_is 1 = .ok (.getfield 68, 3) := dk_180 0 68 (dk_at dksX0_is_0 1 rfl rfl)
theorem dX0_is_4 : decode cX0_is 4 = .ok (.invokevirtual 188, 3) := dk_182 0 188 (dk_at dksX0_is_0 4 rfl rfl)
theorem dX0_is_7 : decode cX0_is 7 = .ok (.invokevirtual 191, 3) := dk_182 0 191 (dk_at dksX0_is_0 7 rfl rfl)
theorem dX0_is_10 : decode cX0_is 10 = .ok (.areturn, 1) := dk_176 (dk_at dksX0_is_0 10 rfl rfl)
abbrev cX0_creeksNow : ByteArray := prog_1_method_27_code
def yX0_creeksNow : MethodName := ⟨RX0, "creeksNow", "()J"⟩
def dkwX0_creeksNow_4 : List UInt8 := [180, 0, 183, 121, 20, 0, 186, 131, 127, 64, 167, 255, 214, 31, 173]
abbrev dktX0_creeksNow_4 : List UInt8 := dkwX0_creeksNow_4 ++ []
def dkwX0_creeksNow_3 : List UInt8 := [185, 0, 167, 1, 0, 192, 0, 177, 58, 4, 25, 4, 180, 0, 179, 153, 0, 17, 31, 10, 25, 4]
abbrev dktX0_creeksNow_3 : List UInt8 := dkwX0_creeksNow_3 ++ dktX0_creeksNow_4
def dkwX0_creeksNow_2 : List UInt8 := [42, 180, 0, 47, 180, 0, 174, 185, 0, 158, 1, 0, 78, 45, 185, 0, 162, 1, 0, 153, 0, 39, 45]
abbrev dktX0_creeksNow_2 : List UInt8 := dkwX0_creeksNow_2 ++ dktX0_creeksNow_3
def dkwX0_creeksNow_1 : List UInt8 := [45, 185, 0, 167, 1, 0, 192, 0, 2, 182, 0, 171, 54, 4, 31, 10, 21, 4, 121, 129, 64, 167, 255, 226]
abbrev dktX0_creeksNow_1 : List UInt8 := dkwX0_creeksNow_1 ++ dktX0_creeksNow_2
def dkwX0_creeksNow_0 : List UInt8 := [9, 64, 42, 180, 0, 47, 180, 0, 155, 185, 0, 158, 1, 0, 78, 45, 185, 0, 162, 1, 0, 153, 0, 27]
abbrev dktX0_creeksNow_0 : List UInt8 := dkwX0_creeksNow_0 ++ dktX0_creeksNow_1
theorem dksX0_creeksNow_0 : cX0_creeksNow.data.toList.drop 0 = dktX0_creeksNow_0 := by decide +kernel
theorem dksX0_creeksNow_1 : cX0_creeksNow.data.toList.drop 24 = dktX0_creeksNow_1 := dk_seg dksX0_creeksNow_0 24 rfl rfl
theorem dksX0_creeksNow_2 : cX0_creeksNow.data.toList.drop 48 = dktX0_creeksNow_2 := dk_seg dksX0_creeksNow_1 24 rfl rfl
theorem dksX0_creeksNow_3 : cX0_creeksNow.data.toList.drop 71 = dktX0_creeksNow_3 := dk_seg dksX0_creeksNow_2 23 rfl rfl
theorem dksX0_creeksNow_4 : cX0_creeksNow.data.toList.drop 93 = dktX0_creeksNow_4 := dk_seg dksX0_creeksNow_3 22 rfl rfl
theorem dX0_creeksNow_0 : decode cX0_creeksNow 0 = .ok (.lconst 0, 1) := dk_9 (dk_at dksX0_creeksNow_0 0 rfl rfl)
theorem dX0_creeksNow_1 : decode cX0_creeksNow 1 = .ok (.lstore_n 1, 1) := dk_64 (dk_at dksX0_creeksNow_0 1 rfl rfl)
theorem dX0_creeksNow_2 : decode cX0_creeksNow 2 = .ok (.aload_n 0, 1) := dk_42 (dk_at dksX0_creeksNow_0 2 rfl rfl)
theorem dX0_creeksNow_3 : decode cX0_creeksNow 3 = .ok (.getfield 47, 3) := dk_180 0 47 (dk_at dksX0_creeksNow_0 3 rfl rfl)
theorem dX0_creeksNow_6 : decode cX0_creeksNow 6 = .ok (.getfield 155, 3) := dk_180 0 155 (dk_at dksX0_creeksNow_0 6 rfl rfl)
theorem dX0_creeksNow_9 : decode cX0_creeksNow 9 = .ok (.invokeinterface 158 1, 5) := by decide +kernel
theorem dX0_creeksNow_14 : decode cX0_creeksNow 14 = .ok (.astore_n 3, 1) := dk_78 (dk_at dksX0_creeksNow_0 14 rfl rfl)
theorem dX0_creeksNow_15 : decode cX0_creeksNow 15 = .ok (.aload_n 3, 1) := dk_45 (dk_at dksX0_creeksNow_0 15 rfl rfl)
theorem dX0_creeksNow_16 : decode cX0_creeksNow 16 = .ok (.invokeinterface 162 1, 5) := by decide +kernel
theorem dX0_creeksNow_21 : decode cX0_creeksNow 21 = .ok (.ifCond .eq 27, 3) := dk_153 0 27 (dk_at dksX0_creeksNow_0 21 rfl rfl)
theorem dX0_creeksNow_24 : decode cX0_creeksNow 24 = .ok (.aload_n 3, 1) := dk_45 (dk_at dksX0_creeksNow_1 0 rfl rfl)
theorem dX0_creeksNow_25 : decode cX0_creeksNow 25 = .ok (.invokeinterface 167 1, 5) := by decide +kernel
theorem dX0_creeksNow_30 : decode cX0_creeksNow 30 = .ok (.checkcast 2, 3) := dk_192 0 2 (dk_at dksX0_creeksNow_1 6 rfl rfl)
theorem dX0_creeksNow_33 : decode cX0_creeksNow 33 = .ok (.invokevirtual 171, 3) := dk_182 0 171 (dk_at dksX0_creeksNow_1 9 rfl rfl)
theorem dX0_creeksNow_36 : decode cX0_creeksNow 36 = .ok (.istore 4, 2) := dk_54 4 (dk_at dksX0_creeksNow_1 12 rfl rfl)
theorem dX0_creeksNow_38 : decode cX0_creeksNow 38 = .ok (.lload_n 1, 1) := dk_31 (dk_at dksX0_creeksNow_1 14 rfl rfl)
theorem dX0_creeksNow_39 : decode cX0_creeksNow 39 = .ok (.lconst 1, 1) := dk_10 (dk_at dksX0_creeksNow_1 15 rfl rfl)
theorem dX0_creeksNow_40 : decode cX0_creeksNow 40 = .ok (.iload 4, 2) := dk_21 4 (dk_at dksX0_creeksNow_1 16 rfl rfl)
theorem dX0_creeksNow_42 : decode cX0_creeksNow 42 = .ok (.lshl, 1) := dk_121 (dk_at dksX0_creeksNow_1 18 rfl rfl)
theorem dX0_creeksNow_43 : decode cX0_creeksNow 43 = .ok (.lor, 1) := dk_129 (dk_at dksX0_creeksNow_1 19 rfl rfl)
theorem dX0_creeksNow_44 : decode cX0_creeksNow 44 = .ok (.lstore_n 1, 1) := dk_64 (dk_at dksX0_creeksNow_1 20 rfl rfl)
theorem dX0_creeksNow_45 : decode cX0_creeksNow 45 = .ok (.goto (-30), 3) := dk_167 255 226 (dk_at dksX0_creeksNow_1 21 rfl rfl)
theorem dX0_creeksNow_48 : decode cX0_creeksNow 48 = .ok (.aload_n 0, 1) := dk_42 (dk_at dksX0_creeksNow_2 0 rfl rfl)
theorem dX0_creeksNow_49 : decode cX0_creeksNow 49 = .ok (.getfield 47, 3) := dk_180 0 47 (dk_at dksX0_creeksNow_2 1 rfl rfl)
theorem dX0_creeksNow_52 : decode cX0_creeksNow 52 = .ok (.getfield 174, 3) := dk_180 0 174 (dk_at dksX0_creeksNow_2 4 rfl rfl)
theorem dX0_creeksNow_55 : decode cX0_creeksNow 55 = .ok (.invokeinterface 158 1, 5) := by decide +kernel
theorem dX0_creeksNow_60 : decode cX0_creeksNow 60 = .ok (.astore_n 3, 1) := dk_78 (dk_at dksX0_creeksNow_2 12 rfl rfl)
theorem dX0_creeksNow_61 : decode cX0_creeksNow 61 = .ok (.aload_n 3, 1) := dk_45 (dk_at dksX0_creeksNow_2 13 rfl rfl)
theorem dX0_creeksNow_62 : decode cX0_creeksNow 62 = .ok (.invokeinterface 162 1, 5) := by decide +kernel
theorem dX0_creeksNow_67 : decode cX0_creeksNow 67 = .ok (.ifCond .eq 39, 3) := dk_153 0 39 (dk_at dksX0_creeksNow_2 19 rfl rfl)
theorem dX0_creeksNow_70 : decode cX0_creeksNow 70 = .ok (.aload_n 3, 1) := dk_45 (dk_at dksX0_creeksNow_2 22 rfl rfl)
theorem dX0_creeksNow_71 : decode cX0_creeksNow 71 = .ok (.invokeinterface 167 1, 5) := by decide +kernel
theorem dX0_creeksNow_76 : decode cX0_creeksNow 76 = .ok (.checkcast 177, 3) := dk_192 0 177 (dk_at dksX0_creeksNow_3 5 rfl rfl)
theorem dX0_creeksNow_79 : decode cX0_creeksNow 79 = .ok (.astore 4, 2) := dk_58 4 (dk_at dksX0_creeksNow_3 8 rfl rfl)
theorem dX0_creeksNow_81 : decode cX0_creeksNow 81 = .ok (.aload 4, 2) := dk_25 4 (dk_at dksX0_creeksNow_3 10 rfl rfl)
theorem dX0_creeksNow_83 : decode cX0_creeksNow 83 = .ok (.getfield 179, 3) := dk_180 0 179 (dk_at dksX0_creeksNow_3 12 rfl rfl)
theorem dX0_creeksNow_86 : decode cX0_creeksNow 86 = .ok (.ifCond .eq 17, 3) := dk_153 0 17 (dk_at dksX0_creeksNow_3 15 rfl rfl)
theorem dX0_creeksNow_89 : decode cX0_creeksNow 89 = .ok (.lload_n 1, 1) := dk_31 (dk_at dksX0_creeksNow_3 18 rfl rfl)
theorem dX0_creeksNow_90 : decode cX0_creeksNow 90 = .ok (.lconst 1, 1) := dk_10 (dk_at dksX0_creeksNow_3 19 rfl rfl)
theorem dX0_creeksNow_91 : decode cX0_creeksNow 91 = .ok (.aload 4, 2) := dk_25 4 (dk_at dksX0_creeksNow_3 20 rfl rfl)
theorem dX0_creeksNow_93 : decode cX0_creeksNow 93 = .ok (.getfield 183, 3) := dk_180 0 183 (dk_at dksX0_creeksNow_4 0 rfl rfl)
theorem dX0_creeksNow_96 : decode cX0_creeksNow 96 = .ok (.lshl, 1) := dk_121 (dk_at dksX0_creeksNow_4 3 rfl rfl)
theorem dX0_creeksNow_97 : decode cX0_creeksNow 97 = .ok (.ldc2_w 186, 3) := dk_20 0 186 (dk_at dksX0_creeksNow_4 4 rfl rfl)
theorem dX0_creeksNow_100 : decode cX0_creeksNow 100 = .ok (.lxor, 1) := dk_131 (dk_at dksX0_creeksNow_4 7 rfl rfl)
theorem dX0_creeksNow_101 : decode cX0_creeksNow 101 = .ok (.land, 1) := dk_127 (dk_at dksX0_creeksNow_4 8 rfl rfl)
theorem dX0_creeksNow_102 : decode cX0_creeksNow 102 = .ok (.lstore_n 1, 1) := dk_64 (dk_at dksX0_creeksNow_4 9 rfl rfl)
theorem dX0_creeksNow_103 : decode cX0_creeksNow 103 = .ok (.goto (-42), 3) := dk_167 255 214 (dk_at dksX0_creeksNow_4 10 rfl rfl)
theorem dX0_creeksNow_106 : decode cX0_creeksNow 106 = .ok (.lload_n 1, 1) := dk_31 (dk_at dksX0_creeksNow_4 13 rfl rfl)
theorem dX0_creeksNow_107 : decode cX0_creeksNow 107 = .ok (.lreturn, 1) := dk_173 (dk_at dksX0_creeksNow_4 14 rfl rfl)
abbrev cX0_many : ByteArray := prog_1_method_13_code
def yX0_many : MethodName := ⟨RX0, "many", "()I"⟩
def dkwX0_many_0 : List UInt8 := [42, 180, 0, 47, 180, 0, 116, 185, 0, 120, 1, 0, 172]
abbrev dktX0_many_0 : List UInt8 := dkwX0_many_0 ++ []
theorem dksX0_many_0 : cX0_many.data.toList.drop 0 = dktX0_many_0 := by decide +kernel
theorem dX0_many_0 : decode cX0_many 0 = .ok (.aload_n 0, 1) := dk_42 (dk_at dksX0_many_0 0 rfl rfl)
theorem dX0_many_1 : decode cX0_many 1 = .ok (.getfield 47, 3) := dk_180 0 47 (dk_at dksX0_many_0 1 rfl rfl)
theorem dX0_many_4 : decode cX0_many 4 = .ok (.getfield 116, 3) := dk_180 0 116 (dk_at dksX0_many_0 4 rfl rfl)
theorem dX0_many_7 : decode cX0_many 7 = .ok (.invokeinterface 120 1, 5) := by decide +kernel
theorem dX0_many_12 : decode cX0_many 12 = .ok (.ireturn, 1) := dk_172 (dk_at dksX0_many_0 12 rfl rfl)
abbrev cX0_widowOf : ByteArray := prog_1_method_15_code
def yX0_widowOf : MethodName := ⟨RX0, "widowOf", "(I)LWidowRoads$Widow;"⟩
def dkwX0_widowOf_0 : List UInt8 := [42, 180, 0, 47, 180, 0, 116, 27, 185, 0, 129, 2, 0, 192, 0, 133, 176]
abbrev dktX0_widowOf_0 : List UInt8 := dkwX0_widowOf_0 ++ []
theorem dksX0_widowOf_0 : cX0_widowOf.data.toList.drop 0 = dktX0_widowOf_0 := by decide +kernel
theorem dX0_widowOf_0 : decode cX0_widowOf 0 = .ok (.aload_n 0, 1) := dk_42 (dk_at dksX0_widowOf_0 0 rfl rfl)
theorem dX0_widowOf_1 : decode cX0_widowOf 1 = .ok (.getfield 47, 3) := dk_180 0 47 (dk_at dksX0_widowOf_0 1 rfl rfl)
theorem dX0_widowOf_4 : decode cX0_widowOf 4 = .ok (.getfield 116, 3) := dk_180 0 116 (dk_at dksX0_widowOf_0 4 rfl rfl)
theorem dX0_widowOf_7 : decode cX0_widowOf 7 = .ok (.iload_n 1, 1) := dk_27 (dk_at dksX0_widowOf_0 7 rfl rfl)
theorem dX0_widowOf_8 : decode cX0_widowOf 8 = .ok (.invokeinterface 129 2, 5) := by decide +kernel
theorem dX0_widowOf_13 : decode cX0_widowOf 13 = .ok (.checkcast 133, 3) := dk_192 0 133 (dk_at dksX0_widowOf_0 13 rfl rfl)
theorem dX0_widowOf_16 : decode cX0_widowOf 16 = .ok (.areturn, 1) := dk_176 (dk_at dksX0_widowOf_0 16 rfl rfl)
abbrev cX0_isOn : ByteArray := prog_1_method_2_code
def yX0_isOn : MethodName := ⟨RX0, "isOn", "(II)Z"⟩
def dkwX0_isOn_0 : List UInt8 := [26, 27, 122, 4, 126, 4, 160, 0, 7, 4, 167, 0, 4, 3, 172]
abbrev dktX0_isOn_0 : List UInt8 := dkwX0_isOn_0 ++ []
theorem dksX0_isOn_0 : cX0_isOn.data.toList.drop 0 = dktX0_isOn_0 := by decide +kernel
theorem dX0_isOn_0 : decode cX0_isOn 0 = .ok (.iload_n 0, 1) := dk_26 (dk_at dksX0_isOn_0 0 rfl rfl)
theorem dX0_isOn_1 : decode cX0_isOn 1 = .ok (.iload_n 1, 1) := dk_27 (dk_at dksX0_isOn_0 1 rfl rfl)
theorem dX0_isOn_2 : decode cX0_isOn 2 = .ok (.ishr, 1) := dk_122 (dk_at dksX0_isOn_0 2 rfl rfl)
theorem dX0_isOn_3 : decode cX0_isOn 3 = .ok (.iconst 1, 1) := dk_4 (dk_at dksX0_isOn_0 3 rfl rfl)
theorem dX0_isOn_4 : decode cX0_isOn 4 = .ok (.iand, 1) := dk_126 (dk_at dksX0_isOn_0 4 rfl rfl)
theorem dX0_isOn_5 : decode cX0_isOn 5 = .ok (.iconst 1, 1) := dk_4 (dk_at dksX0_isOn_0 5 rfl rfl)
theorem dX0_isOn_6 : decode cX0_isOn 6 = .ok (.if_icmp .ne 7, 3) := dk_160 0 7 (dk_at dksX0_isOn_0 6 rfl rfl)
theorem dX0_isOn_9 : decode cX0_isOn 9 = .ok (.iconst 1, 1) := dk_4 (dk_at dksX0_isOn_0 9 rfl rfl)
theorem dX0_isOn_10 : decode cX0_isOn 10 = .ok (.goto 4, 3) := dk_167 0 4 (dk_at dksX0_isOn_0 10 rfl rfl)
theorem dX0_isOn_13 : decode cX0_isOn 13 = .ok (.iconst 0, 1) := dk_3 (dk_at dksX0_isOn_0 13 rfl rfl)
theorem dX0_isOn_14 : decode cX0_isOn 14 = .ok (.ireturn, 1) := dk_172 (dk_at dksX0_isOn_0 14 rfl rfl)
abbrev cX0_beside : ByteArray := prog_1_method_26_code
def yX0_beside : MethodName := ⟨RX0, "beside", "(II)I"⟩
def dkwX0_beside_4 : List UInt8 := [167, 0, 4, 2, 172]
abbrev dktX0_beside_4 : List UInt8 := dkwX0_beside_4 ++ []
def dkwX0_beside_3 : List UInt8 := [9, 42, 180, 0, 47, 180, 0, 150, 4, 100, 133, 184, 0, 11, 153, 0, 13, 16, 8, 29, 104, 21, 4, 96]
abbrev dktX0_beside_3 : List UInt8 := dkwX0_beside_3 ++ dktX0_beside_4
def dkwX0_beside_2 : List UInt8 := [54, 4, 29, 133, 9, 42, 180, 0, 47, 180, 0, 147, 4, 100, 133, 184, 0, 11, 153, 0, 33, 21, 4, 133]
abbrev dktX0_beside_2 : List UInt8 := dkwX0_beside_2 ++ dktX0_beside_3
def dkwX0_beside_1 : List UInt8 := [62, 27, 16, 8, 112, 28, 5, 160, 0, 7, 4, 167, 0, 12, 28, 154, 0, 7, 2, 167, 0, 4, 3, 96]
abbrev dktX0_beside_1 : List UInt8 := dkwX0_beside_1 ++ dktX0_beside_2
def dkwX0_beside_0 : List UInt8 := [27, 16, 8, 108, 28, 4, 160, 0, 7, 4, 167, 0, 13, 28, 6, 160, 0, 7, 2, 167, 0, 4, 3, 96]
abbrev dktX0_beside_0 : List UInt8 := dkwX0_beside_0 ++ dktX0_beside_1
theorem dksX0_beside_0 : cX0_beside.data.toList.drop 0 = dktX0_beside_0 := by decide +kernel
theorem dksX0_beside_1 : cX0_beside.data.toList.drop 24 = dktX0_beside_1 := dk_seg dksX0_beside_0 24 rfl rfl
theorem dksX0_beside_2 : cX0_beside.data.toList.drop 48 = dktX0_beside_2 := dk_seg dksX0_beside_1 24 rfl rfl
theorem dksX0_beside_3 : cX0_beside.data.toList.drop 72 = dktX0_beside_3 := dk_seg dksX0_beside_2 24 rfl rfl
theorem dksX0_beside_4 : cX0_beside.data.toList.drop 96 = dktX0_beside_4 := dk_seg dksX0_beside_3 24 rfl rfl
theorem dX0_beside_0 : decode cX0_beside 0 = .ok (.iload_n 1, 1) := dk_27 (dk_at dksX0_beside_0 0 rfl rfl)
theorem dX0_beside_1 : decode cX0_beside 1 = .ok (.bipush 8, 2) := dk_16 8 (dk_at dksX0_beside_0 1 rfl rfl)
theorem dX0_beside_3 : decode cX0_beside 3 = .ok (.idiv, 1) := dk_108 (dk_at dksX0_beside_0 3 rfl rfl)
theorem dX0_beside_4 : decode cX0_beside 4 = .ok (.iload_n 2, 1) := dk_28 (dk_at dksX0_beside_0 4 rfl rfl)
theorem dX0_beside_5 : decode cX0_beside 5 = .ok (.iconst 1, 1) := dk_4 (dk_at dksX0_beside_0 5 rfl rfl)
theorem dX0_beside_6 : decode cX0_beside 6 = .ok (.if_icmp .ne 7, 3) := dk_160 0 7 (dk_at dksX0_beside_0 6 rfl rfl)
theorem dX0_beside_9 : decode cX0_beside 9 = .ok (.iconst 1, 1) := dk_4 (dk_at dksX0_beside_0 9 rfl rfl)
theorem dX0_beside_10 : decode cX0_beside 10 = .ok (.goto 13, 3) := dk_167 0 13 (dk_at dksX0_beside_0 10 rfl rfl)
theorem dX0_beside_13 : decode cX0_beside 13 = .ok (.iload_n 2, 1) := dk_28 (dk_at dksX0_beside_0 13 rfl rfl)
theorem dX0_beside_14 : decode cX0_beside 14 = .ok (.iconst 3, 1) := dk_6 (dk_at dksX0_beside_0 14 rfl rfl)
theorem dX0_beside_15 : decode cX0_beside 15 = .ok (.if_icmp .ne 7, 3) := dk_160 0 7 (dk_at dksX0_beside_0 15 rfl rfl)
theorem dX0_beside_18 : decode cX0_beside 18 = .ok (.iconst (-1), 1) := dk_2 (dk_at dksX0_beside_0 18 rfl rfl)
theorem dX0_beside_19 : decode cX0_beside 19 = .ok (.goto 4, 3) := dk_167 0 4 (dk_at dksX0_beside_0 19 rfl rfl)
theorem dX0_beside_22 : decode cX0_beside 22 = .ok (.iconst 0, 1) := dk_3 (dk_at dksX0_beside_0 22 rfl rfl)
theorem dX0_beside_23 : decode cX0_beside 23 = .ok (.iadd, 1) := dk_96 (dk_at dksX0_beside_0 23 rfl rfl)
theorem dX0_beside_24 : decode cX0_beside 24 = .ok (.istore_n 3, 1) := dk_62 (dk_at dksX0_beside_1 0 rfl rfl)
theorem dX0_beside_25 : decode cX0_beside 25 = .ok (.iload_n 1, 1) := dk_27 (dk_at dksX0_beside_1 1 rfl rfl)
theorem dX0_beside_26 : decode cX0_beside 26 = .ok (.bipush 8, 2) := dk_16 8 (dk_at dksX0_beside_1 2 rfl rfl)
theorem dX0_beside_28 : decode cX0_beside 28 = .ok (.irem, 1) := dk_112 (dk_at dksX0_beside_1 4 rfl rfl)
theorem dX0_beside_29 : decode cX0_beside 29 = .ok (.iload_n 2, 1) := dk_28 (dk_at dksX0_beside_1 5 rfl rfl)
theorem dX0_beside_30 : decode cX0_beside 30 = .ok (.iconst 2, 1) := dk_5 (dk_at dksX0_beside_1 6 rfl rfl)
theorem dX0_beside_31 : decode cX0_beside 31 = .ok (.if_icmp .ne 7, 3) := dk_160 0 7 (dk_at dksX0_beside_1 7 rfl rfl)
theorem dX0_beside_34 : decode cX0_beside 34 = .ok (.iconst 1, 1) := dk_4 (dk_at dksX0_beside_1 10 rfl rfl)
theorem dX0_beside_35 : decode cX0_beside 35 = .ok (.goto 12, 3) := dk_167 0 12 (dk_at dksX0_beside_1 11 rfl rfl)
theorem dX0_beside_38 : decode cX0_beside 38 = .ok (.iload_n 2, 1) := dk_28 (dk_at dksX0_beside_1 14 rfl rfl)
theorem dX0_beside_39 : decode cX0_beside 39 = .ok (.ifCond .ne 7, 3) := dk_154 0 7 (dk_at dksX0_beside_1 15 rfl rfl)
theorem dX0_beside_42 : decode cX0_beside 42 = .ok (.iconst (-1), 1) := dk_2 (dk_at dksX0_beside_1 18 rfl rfl)
theorem dX0_beside_43 : decode cX0_beside 43 = .ok (.goto 4, 3) := dk_167 0 4 (dk_at dksX0_beside_1 19 rfl rfl)
theorem dX0_beside_46 : decode cX0_beside 46 = .ok (.iconst 0, 1) := dk_3 (dk_at dksX0_beside_1 22 rfl rfl)
theorem dX0_beside_47 : decode cX0_beside 47 = .ok (.iadd, 1) := dk_96 (dk_at dksX0_beside_1 23 rfl rfl)
theorem dX0_beside_48 : decode cX0_beside 48 = .ok (.istore 4, 2) := dk_54 4 (dk_at dksX0_beside_2 0 rfl rfl)
theorem dX0_beside_50 : decode cX0_beside 50 = .ok (.iload_n 3, 1) := dk_29 (dk_at dksX0_beside_2 2 rfl rfl)
theorem dX0_beside_51 : decode cX0_beside 51 = .ok (.i2l, 1) := dk_133 (dk_at dksX0_beside_2 3 rfl rfl)
theorem dX0_beside_52 : decode cX0_beside 52 = .ok (.lconst 0, 1) := dk_9 (dk_at dksX0_beside_2 4 rfl rfl)
theorem dX0_beside_53 : decode cX0_beside 53 = .ok (.aload_n 0, 1) := dk_42 (dk_at dksX0_beside_2 5 rfl rfl)
theorem dX0_beside_54 : decode cX0_beside 54 = .ok (.getfield 47, 3) := dk_180 0 47 (dk_at dksX0_beside_2 6 rfl rfl)
theorem dX0_beside_57 : decode cX0_beside 57 = .ok (.getfield 147, 3) := dk_180 0 147 (dk_at dksX0_beside_2 9 rfl rfl)
theorem dX0_beside_60 : decode cX0_beside 60 = .ok (.iconst 1, 1) := dk_4 (dk_at dksX0_beside_2 12 rfl rfl)
theorem dX0_beside_61 : decode cX0_beside 61 = .ok (.isub, 1) := dk_100 (dk_at dksX0_beside_2 13 rfl rfl)
theorem dX0_beside_62 : decode cX0_beside 62 = .ok (.i2l, 1) := dk_133 (dk_at dksX0_beside_2 14 rfl rfl)
theorem dX0_beside_63 : decode cX0_beside 63 = .ok (.invokestatic 11, 3) := dk_184 0 11 (dk_at dksX0_beside_2 15 rfl rfl)
theorem dX0_beside_66 : decode cX0_beside 66 = .ok (.ifCond .eq 33, 3) := dk_153 0 33 (dk_at dksX0_beside_2 18 rfl rfl)
theorem dX0_beside_69 : decode cX0_beside 69 = .ok (.iload 4, 2) := dk_21 4 (dk_at dksX0_beside_2 21 rfl rfl)
theorem dX0_beside_71 : decode cX0_beside 71 = .ok (.i2l, 1) := dk_133 (dk_at dksX0_beside_2 23 rfl rfl)
theorem dX0_beside_72 : decode cX0_beside 72 = .ok (.lconst 0, 1) := dk_9 (dk_at dksX0_beside_3 0 rfl rfl)
theorem dX0_beside_73 : decode cX0_beside 73 = .ok (.aload_n 0, 1) := dk_42 (dk_at dksX0_beside_3 1 rfl rfl)
theorem dX0_beside_74 : decode cX0_beside 74 = .ok (.getfield 47, 3) := dk_180 0 47 (dk_at dksX0_beside_3 2 rfl rfl)
theorem dX0_beside_77 : decode cX0_beside 77 = .ok (.getfield 150, 3) := dk_180 0 150 (dk_at dksX0_beside_3 5 rfl rfl)
theorem dX0_beside_80 : decode cX0_beside 80 = .ok (.iconst 1, 1) := dk_4 (dk_at dksX0_beside_3 8 rfl rfl)
theorem dX0_beside_81 : decode cX0_beside 81 = .ok (.isub, 1) := dk_100 (dk_at dksX0_beside_3 9 rfl rfl)
theorem dX0_beside_82 : decode cX0_beside 82 = .ok (.i2l, 1) := dk_133 (dk_at dksX0_beside_3 10 rfl rfl)
theorem dX0_beside_83 : decode cX0_beside 83 = .ok (.invokestatic 11, 3) := dk_184 0 11 (dk_at dksX0_beside_3 11 rfl rfl)
theorem dX0_beside_86 : decode cX0_beside 86 = .ok (.ifCond .eq 13, 3) := dk_153 0 13 (dk_at dksX0_beside_3 14 rfl rfl)
theorem dX0_beside_89 : decode cX0_beside 89 = .ok (.bipush 8, 2) := dk_16 8 (dk_at dksX0_beside_3 17 rfl rfl)
theorem dX0_beside_91 : decode cX0_beside 91 = .ok (.iload_n 3, 1) := dk_29 (dk_at dksX0_beside_3 19 rfl rfl)
theorem dX0_beside_92 : decode cX0_beside 92 = .ok (.imul, 1) := dk_104 (dk_at dksX0_beside_3 20 rfl rfl)
theorem dX0_beside_93 : decode cX0_beside 93 = .ok (.iload 4, 2) := dk_21 4 (dk_at dksX0_beside_3 21 rfl rfl)
theorem dX0_beside_95 : decode cX0_beside 95 = .ok (.iadd, 1) := dk_96 (dk_at dksX0_beside_3 23 rfl rfl)
theorem dX0_beside_96 : decode cX0_beside 96 = .ok (.goto 4, 3) := dk_167 0 4 (dk_at dksX0_beside_4 0 rfl rfl)
theorem dX0_beside_99 : decode cX0_beside 99 = .ok (.iconst (-1), 1) := dk_2 (dk_at dksX0_beside_4 3 rfl rfl)
theorem dX0_beside_100 : decode cX0_beside 100 = .ok (.ireturn, 1) := dk_172 (dk_at dksX0_beside_4 4 rfl rfl)
abbrev cX0_isIn : ByteArray := prog_1_method_23_code
def yX0_isIn : MethodName := ⟨RX0, "isIn", "(JI)Z"⟩
def dkwX0_isIn_0 : List UInt8 := [30, 28, 123, 10, 127, 10, 148, 154, 0, 7, 4, 167, 0, 4, 3, 172]
abbrev dktX0_isIn_0 : List UInt8 := dkwX0_isIn_0 ++ []
theorem dksX0_isIn_0 : cX0_isIn.data.toList.drop 0 = dktX0_isIn_0 := by decide +kernel
theorem dX0_isIn_0 : decode cX0_isIn 0 = .ok (.lload_n 0, 1) := dk_30 (dk_at dksX0_isIn_0 0 rfl rfl)
theorem dX0_isIn_1 : decode cX0_isIn 1 = .ok (.iload_n 2, 1) := dk_28 (dk_at dksX0_isIn_0 1 rfl rfl)
theorem dX0_isIn_2 : decode cX0_isIn 2 = .ok (.lshr, 1) := dk_123 (dk_at dksX0_isIn_0 2 rfl rfl)
theorem dX0_isIn_3 : decode cX0_isIn 3 = .ok (.lconst 1, 1) := dk_10 (dk_at dksX0_isIn_0 3 rfl rfl)
theorem dX0_isIn_4 : decode cX0_isIn 4 = .ok (.land, 1) := dk_127 (dk_at dksX0_isIn_0 4 rfl rfl)
theorem dX0_isIn_5 : decode cX0_isIn 5 = .ok (.lconst 1, 1) := dk_10 (dk_at dksX0_isIn_0 5 rfl rfl)
theorem dX0_isIn_6 : decode cX0_isIn 6 = .ok (.lcmp, 1) := dk_148 (dk_at dksX0_isIn_0 6 rfl rfl)
theorem dX0_isIn_7 : decode cX0_isIn 7 = .ok (.ifCond .ne 7, 3) := dk_154 0 7 (dk_at dksX0_isIn_0 7 rfl rfl)
theorem dX0_isIn_10 : decode cX0_isIn 10 = .ok (.iconst 1, 1) := dk_4 (dk_at dksX0_isIn_0 10 rfl rfl)
theorem dX0_isIn_11 : decode cX0_isIn 11 = .ok (.goto 4, 3) := dk_167 0 4 (dk_at dksX0_isIn_0 11 rfl rfl)
theorem dX0_isIn_14 : decode cX0_isIn 14 = .ok (.iconst 0, 1) := dk_3 (dk_at dksX0_isIn_0 14 rfl rfl)
theorem dX0_isIn_15 : decode cX0_isIn 15 = .ok (.ireturn, 1) := dk_172 (dk_at dksX0_isIn_0 15 rfl rfl)
abbrev cX0_creek : ByteArray := prog_1_method_30_code
def yX0_creek : MethodName := ⟨RX0, "creek", "(I)I"⟩
def dkwX0_creek_1 : List UInt8 := [4, 167, 0, 9, 3, 167, 0, 5, 16, 254, 172]
abbrev dktX0_creek_1 : List UInt8 := dkwX0_creek_1 ++ []
def dkwX0_creek_0 : List UInt8 := [42, 27, 133, 182, 0, 206, 153, 0, 26, 42, 182, 0, 209, 27, 133, 184, 0, 213, 184, 0, 217, 153, 0, 7]
abbrev dktX0_creek_0 : List UInt8 := dkwX0_creek_0 ++ dktX0_creek_1
theorem dksX0_creek_0 : cX0_creek.data.toList.drop 0 = dktX0_creek_0 := by decide +kernel
theorem dksX0_creek_1 : cX0_creek.data.toList.drop 24 = dktX0_creek_1 := dk_seg dksX0_creek_0 24 rfl rfl
theorem dX0_creek_0 : decode cX0_creek 0 = .ok (.aload_n 0, 1) := dk_42 (dk_at dksX0_creek_0 0 rfl rfl)
theorem dX0_creek_1 : decode cX0_creek 1 = .ok (.iload_n 1, 1) := dk_27 (dk_at dksX0_creek_0 1 rfl rfl)
theorem dX0_creek_2 : decode cX0_creek 2 = .ok (.i2l, 1) := dk_133 (dk_at dksX0_creek_0 2 rfl rfl)
theorem dX0_creek_3 : decode cX0_creek 3 = .ok (.invokevirtual 206, 3) := dk_182 0 206 (dk_at dksX0_creek_0 3 rfl rfl)
theorem dX0_creek_6 : decode cX0_creek 6 = .ok (.ifCond .eq 26, 3) := dk_153 0 26 (dk_at dksX0_creek_0 6 rfl rfl)
theorem dX0_creek_9 : decode cX0_creek 9 = .ok (.aload_n 0, 1) := dk_42 (dk_at dksX0_creek_0 9 rfl rfl)
theorem dX0_creek_10 : decode cX0_creek 10 = .ok (.invokevirtual 209, 3) := dk_182 0 209 (dk_at dksX0_creek_0 10 rfl rfl)
theorem dX0_creek_13 : decode cX0_creek 13 = .ok (.iload_n 1, 1) := dk_27 (dk_at dksX0_creek_0 13 rfl rfl)
theorem dX0_creek_14 : decode cX0_creek 14 = .ok (.i2l, 1) := dk_133 (dk_at dksX0_creek_0 14 rfl rfl)
theorem dX0_creek_15 : decode cX0_creek 15 = .ok (.invokestatic 213, 3) := dk_184 0 213 (dk_at dksX0_creek_0 15 rfl rfl)
theorem dX0_creek_18 : decode cX0_creek 18 = .ok (.invokestatic 217, 3) := dk_184 0 217 (dk_at dksX0_creek_0 18 rfl rfl)
theorem dX0_creek_21 : decode cX0_creek 21 = .ok (.ifCond .eq 7, 3) := dk_153 0 7 (dk_at dksX0_creek_0 21 rfl rfl)
theorem dX0_creek_24 : decode cX0_creek 24 = .ok (.iconst 1, 1) := dk_4 (dk_at dksX0_creek_1 0 rfl rfl)
theorem dX0_creek_25 : decode cX0_creek 25 = .ok (.goto 9, 3) := dk_167 0 9 (dk_at dksX0_creek_1 1 rfl rfl)
theorem dX0_creek_28 : decode cX0_creek 28 = .ok (.iconst 0, 1) := dk_3 (dk_at dksX0_creek_1 4 rfl rfl)
theorem dX0_creek_29 : decode cX0_creek 29 = .ok (.goto 5, 3) := dk_167 0 5 (dk_at dksX0_creek_1 5 rfl rfl)
theorem dX0_creek_32 : decode cX0_creek 32 = .ok (.bipush (-2), 2) := dk_16 254 (dk_at dksX0_creek_1 8 rfl rfl)
theorem dX0_creek_34 : decode cX0_creek 34 = .ok (.ireturn, 1) := dk_172 (dk_at dksX0_creek_1 10 rfl rfl)
abbrev cX0_isCell : ByteArray := prog_1_method_20_code
def yX0_isCell : MethodName := ⟨RX0, "isCell", "(J)Z"⟩
def dkwX0_isCell_2 : List UInt8 := [148, 156, 0, 7, 4, 167, 0, 4, 3, 172]
abbrev dktX0_isCell_2 : List UInt8 := dkwX0_isCell_2 ++ []
def dkwX0_isCell_1 : List UInt8 := [180, 0, 47, 180, 0, 147, 133, 148, 156, 0, 24, 31, 20, 0, 145, 113, 42, 180, 0, 47, 180, 0, 150, 133]
abbrev dktX0_isCell_1 : List UInt8 := dkwX0_isCell_1 ++ dktX0_isCell_2
def dkwX0_isCell_0 : List UInt8 := [42, 180, 0, 47, 182, 0, 98, 153, 0, 47, 31, 9, 148, 155, 0, 41, 31, 20, 0, 145, 109, 42]
abbrev dktX0_isCell_0 : List UInt8 := dkwX0_isCell_0 ++ dktX0_isCell_1
theorem dksX0_isCell_0 : cX0_isCell.data.toList.drop 0 = dktX0_isCell_0 := by decide +kernel
theorem dksX0_isCell_1 : cX0_isCell.data.toList.drop 22 = dktX0_isCell_1 := dk_seg dksX0_isCell_0 22 rfl rfl
theorem dksX0_isCell_2 : cX0_isCell.data.toList.drop 46 = dktX0_isCell_2 := dk_seg dksX0_isCell_1 24 rfl rfl
theorem dX0_isCell_0 : decode cX0_isCell 0 = .ok (.aload_n 0, 1) := dk_42 (dk_at dksX0_isCell_0 0 rfl rfl)
theorem dX0_isCell_1 : decode cX0_isCell 1 = .ok (.getfield 47, 3) := dk_180 0 47 (dk_at dksX0_isCell_0 1 rfl rfl)
theorem dX0_isCell_4 : decode cX0_isCell 4 = .ok (.invokevirtual 98, 3) := dk_182 0 98 (dk_at dksX0_isCell_0 4 rfl rfl)
theorem dX0_isCell_7 : decode cX0_isCell 7 = .ok (.ifCond .eq 47, 3) := dk_153 0 47 (dk_at dksX0_isCell_0 7 rfl rfl)
theorem dX0_isCell_10 : decode cX0_isCell 10 = .ok (.lload_n 1, 1) := dk_31 (dk_at dksX0_isCell_0 10 rfl rfl)
theorem dX0_isCell_11 : decode cX0_isCell 11 = .ok (.lconst 0, 1) := dk_9 (dk_at dksX0_isCell_0 11 rfl rfl)
theorem dX0_isCell_12 : decode cX0_isCell 12 = .ok (.lcmp, 1) := dk_148 (dk_at dksX0_isCell_0 12 rfl rfl)
theorem dX0_isCell_13 : decode cX0_isCell 13 = .ok (.ifCond .lt 41, 3) := dk_155 0 41 (dk_at dksX0_isCell_0 13 rfl rfl)
theorem dX0_isCell_16 : decode cX0_isCell 16 = .ok (.lload_n 1, 1) := dk_31 (dk_at dksX0_isCell_0 16 rfl rfl)
theorem dX0_isCell_17 : decode cX0_isCell 17 = .ok (.ldc2_w 145, 3) := dk_20 0 145 (dk_at dksX0_isCell_0 17 rfl rfl)
theorem dX0_isCell_20 : decode cX0_isCell 20 = .ok (.ldiv, 1) := dk_109 (dk_at dksX0_isCell_0 20 rfl rfl)
theorem dX0_isCell_21 : decode cX0_isCell 21 = .ok (.aload_n 0, 1) := dk_42 (dk_at dksX0_isCell_0 21 rfl rfl)
theorem dX0_isCell_22 : decode cX0_isCell 22 = .ok (.getfield 47, 3) := dk_180 0 47 (dk_at dksX0_isCell_1 0 rfl rfl)
theorem dX0_isCell_25 : decode cX0_isCell 25 = .ok (.getfield 147, 3) := dk_180 0 147 (dk_at dksX0_isCell_1 3 rfl rfl)
theorem dX0_isCell_28 : decode cX0_isCell 28 = .ok (.i2l, 1) := dk_133 (dk_at dksX0_isCell_1 6 rfl rfl)
theorem dX0_isCell_29 : decode cX0_isCell 29 = .ok (.lcmp, 1) := dk_148 (dk_at dksX0_isCell_1 7 rfl rfl)
theorem dX0_isCell_30 : decode cX0_isCell 30 = .ok (.ifCond .ge 24, 3) := dk_156 0 24 (dk_at dksX0_isCell_1 8 rfl rfl)
theorem dX0_isCell_33 : decode cX0_isCell 33 = .ok (.lload_n 1, 1) := dk_31 (dk_at dksX0_isCell_1 11 rfl rfl)
theorem dX0_isCell_34 : decode cX0_isCell 34 = .ok (.ldc2_w 145, 3) := dk_20 0 145 (dk_at dksX0_isCell_1 12 rfl rfl)
theorem dX0_isCell_37 : decode cX0_isCell 37 = .ok (.lrem, 1) := dk_113 (dk_at dksX0_isCell_1 15 rfl rfl)
theorem dX0_isCell_38 : decode cX0_isCell 38 = .ok (.aload_n 0, 1) := dk_42 (dk_at dksX0_isCell_1 16 rfl rfl)
theorem dX0_isCell_39 : decode cX0_isCell 39 = .ok (.getfield 47, 3) := dk_180 0 47 (dk_at dksX0_isCell_1 17 rfl rfl)
theorem dX0_isCell_42 : decode cX0_isCell 42 = .ok (.getfield 150, 3) := dk_180 0 150 (dk_at dksX0_isCell_1 20 rfl rfl)
theorem dX0_isCell_45 : decode cX0_isCell 45 = .ok (.i2l, 1) := dk_133 (dk_at dksX0_isCell_1 23 rfl rfl)
theorem dX0_isCell_46 : decode cX0_isCell 46 = .ok (.lcmp, 1) := dk_148 (dk_at dksX0_isCell_2 0 rfl rfl)
theorem dX0_isCell_47 : decode cX0_isCell 47 = .ok (.ifCond .ge 7, 3) := dk_156 0 7 (dk_at dksX0_isCell_2 1 rfl rfl)
theorem dX0_isCell_50 : decode cX0_isCell 50 = .ok (.iconst 1, 1) := dk_4 (dk_at dksX0_isCell_2 4 rfl rfl)
theorem dX0_isCell_51 : decode cX0_isCell 51 = .ok (.goto 4, 3) := dk_167 0 4 (dk_at dksX0_isCell_2 5 rfl rfl)
theorem dX0_isCell_54 : decode cX0_isCell 54 = .ok (.iconst 0, 1) := dk_3 (dk_at dksX0_isCell_2 8 rfl rfl)
theorem dX0_isCell_55 : decode cX0_isCell 55 = .ok (.ireturn, 1) := dk_172 (dk_at dksX0_isCell_2 9 rfl rfl)
abbrev cX0_spotOf : ByteArray := prog_1_method_24_code
def yX0_spotOf : MethodName := ⟨RX0, "spotOf", "(J)I"⟩
def dkwX0_spotOf_0 : List UInt8 := [30, 20, 0, 145, 109, 20, 0, 153, 105, 30, 20, 0, 145, 113, 97, 136, 172]
abbrev dktX0_spotOf_0 : List UInt8 := dkwX0_spotOf_0 ++ []
theorem dksX0_spotOf_0 : cX0_spotOf.data.toList.drop 0 = dktX0_spotOf_0 := by decide +kernel
theorem dX0_spotOf_0 : decode cX0_spotOf 0 = .ok (.lload_n 0, 1) := dk_30 (dk_at dksX0_spotOf_0 0 rfl rfl)
theorem dX0_spotOf_1 : decode cX0_spotOf 1 = .ok (.ldc2_w 145, 3) := dk_20 0 145 (dk_at dksX0_spotOf_0 1 rfl rfl)
theorem dX0_spotOf_4 : decode cX0_spotOf 4 = .ok (.ldiv, 1) := dk_109 (dk_at dksX0_spotOf_0 4 rfl rfl)
theorem dX0_spotOf_5 : decode cX0_spotOf 5 = .ok (.ldc2_w 153, 3) := dk_20 0 153 (dk_at dksX0_spotOf_0 5 rfl rfl)
theorem dX0_spotOf_8 : decode cX0_spotOf 8 = .ok (.lmul, 1) := dk_105 (dk_at dksX0_spotOf_0 8 rfl rfl)
theorem dX0_spotOf_9 : decode cX0_spotOf 9 = .ok (.lload_n 0, 1) := dk_30 (dk_at dksX0_spotOf_0 9 rfl rfl)
theorem dX0_spotOf_10 : decode cX0_spotOf 10 = .ok (.ldc2_w 145, 3) := dk_20 0 145 (dk_at dksX0_spotOf_0 10 rfl rfl)
theorem dX0_spotOf_13 : decode cX0_spotOf 13 = .ok (.lrem, 1) := dk_113 (dk_at dksX0_spotOf_0 13 rfl rfl)
theorem dX0_spotOf_14 : decode cX0_spotOf 14 = .ok (.ladd, 1) := dk_97 (dk_at dksX0_spotOf_0 14 rfl rfl)
theorem dX0_spotOf_15 : decode cX0_spotOf 15 = .ok (.l2i, 1) := dk_136 (dk_at dksX0_spotOf_0 15 rfl rfl)
theorem dX0_spotOf_16 : decode cX0_spotOf 16 = .ok (.ireturn, 1) := dk_172 (dk_at dksX0_spotOf_0 16 rfl rfl)
abbrev cX0_widow : ByteArray := prog_1_method_31_code
def yX0_widow : MethodName := ⟨RX0, "widow", "(II)I"⟩
def dkwX0_widow_3 : List UInt8 := [160, 0, 10, 45, 180, 0, 199, 167, 0, 7, 45, 180, 0, 234, 172]
abbrev dktX0_widow_3 : List UInt8 := dkwX0_widow_3 ++ []
def dkwX0_widow_2 : List UInt8 := [160, 0, 10, 45, 180, 0, 229, 167, 0, 31, 28, 5, 160, 0, 10, 45, 180, 0, 232, 167, 0, 19, 28, 6]
abbrev dktX0_widow_2 : List UInt8 := dkwX0_widow_2 ++ dktX0_widow_3
def dkwX0_widow_1 : List UInt8 := [42, 27, 182, 0, 195, 78, 28, 154, 0, 13, 45, 180, 0, 223, 184, 0, 226, 167, 0, 43, 28, 4]
abbrev dktX0_widow_1 : List UInt8 := dkwX0_widow_1 ++ dktX0_widow_2
def dkwX0_widow_0 : List UInt8 := [42, 27, 133, 182, 0, 138, 153, 0, 15, 28, 133, 9, 20, 0, 221, 184, 0, 11, 154, 0, 6, 16, 254, 172]
abbrev dktX0_widow_0 : List UInt8 := dkwX0_widow_0 ++ dktX0_widow_1
theorem dksX0_widow_0 : cX0_widow.data.toList.drop 0 = dktX0_widow_0 := by decide +kernel
theorem dksX0_widow_1 : cX0_widow.data.toList.drop 24 = dktX0_widow_1 := dk_seg dksX0_widow_0 24 rfl rfl
theorem dksX0_widow_2 : cX0_widow.data.toList.drop 46 = dktX0_widow_2 := dk_seg dksX0_widow_1 22 rfl rfl
theorem dksX0_widow_3 : cX0_widow.data.toList.drop 70 = dktX0_widow_3 := dk_seg dksX0_widow_2 24 rfl rfl
theorem dX0_widow_0 : decode cX0_widow 0 = .ok (.aload_n 0, 1) := dk_42 (dk_at dksX0_widow_0 0 rfl rfl)
theorem dX0_widow_1 : decode cX0_widow 1 = .ok (.iload_n 1, 1) := dk_27 (dk_at dksX0_widow_0 1 rfl rfl)
theorem dX0_widow_2 : decode cX0_widow 2 = .ok (.i2l, 1) := dk_133 (dk_at dksX0_widow_0 2 rfl rfl)
theorem dX0_widow_3 : decode cX0_widow 3 = .ok (.invokevirtual 138, 3) := dk_182 0 138 (dk_at dksX0_widow_0 3 rfl rfl)
theorem dX0_widow_6 : decode cX0_widow 6 = .ok (.ifCond .eq 15, 3) := dk_153 0 15 (dk_at dksX0_widow_0 6 rfl rfl)
theorem dX0_widow_9 : decode cX0_widow 9 = .ok (.iload_n 2, 1) := dk_28 (dk_at dksX0_widow_0 9 rfl rfl)
theorem dX0_widow_10 : decode cX0_widow 10 = .ok (.i2l, 1) := dk_133 (dk_at dksX0_widow_0 10 rfl rfl)
theorem dX0_widow_11 : decode cX0_widow 11 = .ok (.lconst 0, 1) := dk_9 (dk_at dksX0_widow_0 11 rfl rfl)
theorem dX0_widow_12 : decode cX0_widow 12 = .ok (.ldc2_w 221, 3) := dk_20 0 221 (dk_at dksX0_widow_0 12 rfl rfl)
theorem dX0_widow_15 : decode cX0_widow 15 = .ok (.invokestatic 11, 3) := dk_184 0 11 (dk_at dksX0_widow_0 15 rfl rfl)
theorem dX0_widow_18 : decode cX0_widow 18 = .ok (.ifCond .ne 6, 3) := dk_154 0 6 (dk_at dksX0_widow_0 18 rfl rfl)
theorem dX0_widow_21 : decode cX0_widow 21 = .ok (.bipush (-2), 2) := dk_16 254 (dk_at dksX0_widow_0 21 rfl rfl)
theorem dX0_widow_23 : decode cX0_widow 23 = .ok (.ireturn, 1) := dk_172 (dk_at dksX0_widow_0 23 rfl rfl)
theorem dX0_widow_24 : decode cX0_widow 24 = .ok (.aload_n 0, 1) := dk_42 (dk_at dksX0_widow_1 0 rfl rfl)
theorem dX0_widow_25 : decode cX0_widow 25 = .ok (.iload_n 1, 1) := dk_27 (dk_at dksX0_widow_1 1 rfl rfl)
theorem dX0_widow_26 : decode cX0_widow 26 = .ok (.invokevirtual 195, 3) := dk_182 0 195 (dk_at dksX0_widow_1 2 rfl rfl)
theorem dX0_widow_29 : decode cX0_widow 29 = .ok (.astore_n 3, 1) := dk_78 (dk_at dksX0_widow_1 5 rfl rfl)
theorem dX0_widow_30 : decode cX0_widow 30 = .ok (.iload_n 2, 1) := dk_28 (dk_at dksX0_widow_1 6 rfl rfl)
theorem dX0_widow_31 : decode cX0_widow 31 = .ok (.ifCond .ne 13, 3) := dk_154 0 13 (dk_at dksX0_widow_1 7 rfl rfl)
theorem dX0_widow_34 : decode cX0_widow 34 = .ok (.aload_n 3, 1) := dk_45 (dk_at dksX0_widow_1 10 rfl rfl)
theorem dX0_widow_35 : decode cX0_widow 35 = .ok (.getfield 223, 3) := dk_180 0 223 (dk_at dksX0_widow_1 11 rfl rfl)
theorem dX0_widow_38 : decode cX0_widow 38 = .ok (.invokestatic 226, 3) := dk_184 0 226 (dk_at dksX0_widow_1 14 rfl rfl)
theorem dX0_widow_41 : decode cX0_widow 41 = .ok (.goto 43, 3) := dk_167 0 43 (dk_at dksX0_widow_1 17 rfl rfl)
theorem dX0_widow_44 : decode cX0_widow 44 = .ok (.iload_n 2, 1) := dk_28 (dk_at dksX0_widow_1 20 rfl rfl)
theorem dX0_widow_45 : decode cX0_widow 45 = .ok (.iconst 1, 1) := dk_4 (dk_at dksX0_widow_1 21 rfl rfl)
theorem dX0_widow_46 : decode cX0_widow 46 = .ok (.if_icmp .ne 10, 3) := dk_160 0 10 (dk_at dksX0_widow_2 0 rfl rfl)
theorem dX0_widow_49 : decode cX0_widow 49 = .ok (.aload_n 3, 1) := dk_45 (dk_at dksX0_widow_2 3 rfl rfl)
theorem dX0_widow_50 : decode cX0_widow 50 = .ok (.getfield 229, 3) := dk_180 0 229 (dk_at dksX0_widow_2 4 rfl rfl)
theorem dX0_widow_53 : decode cX0_widow 53 = .ok (.goto 31, 3) := dk_167 0 31 (dk_at dksX0_widow_2 7 rfl rfl)
theorem dX0_widow_56 : decode cX0_widow 56 = .ok (.iload_n 2, 1) := dk_28 (dk_at dksX0_widow_2 10 rfl rfl)
theorem dX0_widow_57 : decode cX0_widow 57 = .ok (.iconst 2, 1) := dk_5 (dk_at dksX0_widow_2 11 rfl rfl)
theorem dX0_widow_58 : decode cX0_widow 58 = .ok (.if_icmp .ne 10, 3) := dk_160 0 10 (dk_at dksX0_widow_2 12 rfl rfl)
theorem dX0_widow_61 : decode cX0_widow 61 = .ok (.aload_n 3, 1) := dk_45 (dk_at dksX0_widow_2 15 rfl rfl)
theorem dX0_widow_62 : decode cX0_widow 62 = .ok (.getfield 232, 3) := dk_180 0 232 (dk_at dksX0_widow_2 16 rfl rfl)
theorem dX0_widow_65 : decode cX0_widow 65 = .ok (.goto 19, 3) := dk_167 0 19 (dk_at dksX0_widow_2 19 rfl rfl)
theorem dX0_widow_68 : decode cX0_widow 68 = .ok (.iload_n 2, 1) := dk_28 (dk_at dksX0_widow_2 22 rfl rfl)
theorem dX0_widow_69 : decode cX0_widow 69 = .ok (.iconst 3, 1) := dk_6 (dk_at dksX0_widow_2 23 rfl rfl)
theorem dX0_widow_70 : decode cX0_widow 70 = .ok (.if_icmp .ne 10, 3) := dk_160 0 10 (dk_at dksX0_widow_3 0 rfl rfl)
theorem dX0_widow_73 : decode cX0_widow 73 = .ok (.aload_n 3, 1) := dk_45 (dk_at dksX0_widow_3 3 rfl rfl)
theorem dX0_widow_74 : decode cX0_widow 74 = .ok (.getfield 199, 3) := dk_180 0 199 (dk_at dksX0_widow_3 4 rfl rfl)
theorem dX0_widow_77 : decode cX0_widow 77 = .ok (.goto 7, 3) := dk_167 0 7 (dk_at dksX0_widow_3 7 rfl rfl)
theorem dX0_widow_80 : decode cX0_widow 80 = .ok (.aload_n 3, 1) := dk_45 (dk_at dksX0_widow_3 10 rfl rfl)
theorem dX0_widow_81 : decode cX0_widow 81 = .ok (.getfield 234, 3) := dk_180 0 234 (dk_at dksX0_widow_3 11 rfl rfl)
theorem dX0_widow_84 : decode cX0_widow 84 = .ok (.ireturn, 1) := dk_172 (dk_at dksX0_widow_3 14 rfl rfl)
abbrev cX0_isWidow : ByteArray := prog_1_method_16_code
def yX0_isWidow : MethodName := ⟨RX0, "isWidow", "(J)Z"⟩
def dkwX0_isWidow_0 : List UInt8 := [31, 9, 42, 182, 0, 126, 4, 100, 133, 184, 0, 11, 172]
abbrev dktX0_isWidow_0 : List UInt8 := dkwX0_isWidow_0 ++ []
theorem dksX0_isWidow_0 : cX0_isWidow.data.toList.drop 0 = dktX0_isWidow_0 := by decide +kernel
theorem dX0_isWidow_0 : decode cX0_isWidow 0 = .ok (.lload_n 1, 1) := dk_31 (dk_at dksX0_isWidow_0 0 rfl rfl)
theorem dX0_isWidow_1 : decode cX0_isWidow 1 = .ok (.lconst 0, 1) := dk_9 (dk_at dksX0_isWidow_0 1 rfl rfl)
theorem dX0_isWidow_2 : decode cX0_isWidow 2 = .ok (.aload_n 0, 1) := dk_42 (dk_at dksX0_isWidow_0 2 rfl rfl)
theorem dX0_isWidow_3 : decode cX0_isWidow 3 = .ok (.invokevirtual 126, 3) := dk_182 0 126 (dk_at dksX0_isWidow_0 3 rfl rfl)
theorem dX0_isWidow_6 : decode cX0_isWidow 6 = .ok (.iconst 1, 1) := dk_4 (dk_at dksX0_isWidow_0 6 rfl rfl)
theorem dX0_isWidow_7 : decode cX0_isWidow 7 = .ok (.isub, 1) := dk_100 (dk_at dksX0_isWidow_0 7 rfl rfl)
theorem dX0_isWidow_8 : decode cX0_isWidow 8 = .ok (.i2l, 1) := dk_133 (dk_at dksX0_isWidow_0 8 rfl rfl)
theorem dX0_isWidow_9 : decode cX0_isWidow 9 = .ok (.invokestatic 11, 3) := dk_184 0 11 (dk_at dksX0_isWidow_0 9 rfl rfl)
theorem dX0_isWidow_12 : decode cX0_isWidow 12 = .ok (.ireturn, 1) := dk_172 (dk_at dksX0_isWidow_0 12 rfl rfl)
abbrev cX0_cellOf : ByteArray := prog_1_method_25_code
def yX0_cellOf : MethodName := ⟨RX0, "cellOf", "(I)I"⟩
def dkwX0_cellOf_0 : List UInt8 := [26, 2, 160, 0, 7, 2, 167, 0, 15, 26, 16, 8, 108, 16, 10, 104, 26, 16, 8, 112, 96, 172]
abbrev dktX0_cellOf_0 : List UInt8 := dkwX0_cellOf_0 ++ []
theorem dksX0_cellOf_0 : cX0_cellOf.data.toList.drop 0 = dktX0_cellOf_0 := by decide +kernel
theorem dX0_cellOf_0 : decode cX0_cellOf 0 = .ok (.iload_n 0, 1) := dk_26 (dk_at dksX0_cellOf_0 0 rfl rfl)
theorem dX0_cellOf_1 : decode cX0_cellOf 1 = .ok (.iconst (-1), 1) := dk_2 (dk_at dksX0_cellOf_0 1 rfl rfl)
theorem dX0_cellOf_2 : decode cX0_cellOf 2 = .ok (.if_icmp .ne 7, 3) := dk_160 0 7 (dk_at dksX0_cellOf_0 2 rfl rfl)
theorem dX0_cellOf_5 : decode cX0_cellOf 5 = .ok (.iconst (-1), 1) := dk_2 (dk_at dksX0_cellOf_0 5 rfl rfl)
theorem dX0_cellOf_6 : decode cX0_cellOf 6 = .ok (.goto 15, 3) := dk_167 0 15 (dk_at dksX0_cellOf_0 6 rfl rfl)
theorem dX0_cellOf_9 : decode cX0_cellOf 9 = .ok (.iload_n 0, 1) := dk_26 (dk_at dksX0_cellOf_0 9 rfl rfl)
theorem dX0_cellOf_10 : decode cX0_cellOf 10 = .ok (.bipush 8, 2) := dk_16 8 (dk_at dksX0_cellOf_0 10 rfl rfl)
theorem dX0_cellOf_12 : decode cX0_cellOf 12 = .ok (.idiv, 1) := dk_108 (dk_at dksX0_cellOf_0 12 rfl rfl)
theorem dX0_cellOf_13 : decode cX0_cellOf 13 = .ok (.bipush 10, 2) := dk_16 10 (dk_at dksX0_cellOf_0 13 rfl rfl)
theorem dX0_cellOf_15 : decode cX0_cellOf 15 = .ok (.imul, 1) := dk_104 (dk_at dksX0_cellOf_0 15 rfl rfl)
theorem dX0_cellOf_16 : decode cX0_cellOf 16 = .ok (.iload_n 0, 1) := dk_26 (dk_at dksX0_cellOf_0 16 rfl rfl)
theorem dX0_cellOf_17 : decode cX0_cellOf 17 = .ok (.bipush 8, 2) := dk_16 8 (dk_at dksX0_cellOf_0 17 rfl rfl)
theorem dX0_cellOf_19 : decode cX0_cellOf 19 = .ok (.irem, 1) := dk_112 (dk_at dksX0_cellOf_0 19 rfl rfl)
theorem dX0_cellOf_20 : decode cX0_cellOf 20 = .ok (.iadd, 1) := dk_96 (dk_at dksX0_cellOf_0 20 rfl rfl)
theorem dX0_cellOf_21 : decode cX0_cellOf 21 = .ok (.ireturn, 1) := dk_172 (dk_at dksX0_cellOf_0 21 rfl rfl)
abbrev cX0_grief : ByteArray := prog_1_method_32_code
def yX0_grief : MethodName := ⟨RX0, "grief", "(II)I"⟩
def dkwX0_grief_1 : List UInt8 := [180, 0, 234, 162, 0, 16, 42, 27, 182, 0, 195, 180, 0, 236, 28, 46, 167, 0, 4, 2, 172]
abbrev dktX0_grief_1 : List UInt8 := dkwX0_grief_1 ++ []
def dkwX0_grief_0 : List UInt8 := [42, 27, 133, 182, 0, 138, 153, 0, 7, 28, 156, 0, 6, 16, 254, 172, 28, 42, 27, 182, 0, 195]
abbrev dktX0_grief_0 : List UInt8 := dkwX0_grief_0 ++ dktX0_grief_1
theorem dksX0_grief_0 : cX0_grief.data.toList.drop 0 = dktX0_grief_0 := by decide +kernel
theorem dksX0_grief_1 : cX0_grief.data.toList.drop 22 = dktX0_grief_1 := dk_seg dksX0_grief_0 22 rfl rfl
theorem dX0_grief_0 : decode cX0_grief 0 = .ok (.aload_n 0, 1) := dk_42 (dk_at dksX0_grief_0 0 rfl rfl)
theorem dX0_grief_1 : decode cX0_grief 1 = .ok (.iload_n 1, 1) := dk_27 (dk_at dksX0_grief_0 1 rfl rfl)
theorem dX0_grief_2 : decode cX0_grief 2 = .ok (.i2l, 1) := dk_133 (dk_at dksX0_grief_0 2 rfl rfl)
theorem dX0_grief_3 : decode cX0_grief 3 = .ok (.invokevirtual 138, 3) := dk_182 0 138 (dk_at dksX0_grief_0 3 rfl rfl)
theorem dX0_grief_6 : decode cX0_grief 6 = .ok (.ifCond .eq 7, 3) := dk_153 0 7 (dk_at dksX0_grief_0 6 rfl rfl)
theorem dX0_grief_9 : decode cX0_grief 9 = .ok (.iload_n 2, 1) := dk_28 (dk_at dksX0_grief_0 9 rfl rfl)
theorem dX0_grief_10 : decode cX0_grief 10 = .ok (.ifCond .ge 6, 3) := dk_156 0 6 (dk_at dksX0_grief_0 10 rfl rfl)
theorem dX0_grief_13 : decode cX0_grief 13 = .ok (.bipush (-2), 2) := dk_16 254 (dk_at dksX0_grief_0 13 rfl rfl)
theorem dX0_grief_15 : decode cX0_grief 15 = .ok (.ireturn, 1) := dk_172 (dk_at dksX0_grief_0 15 rfl rfl)
theorem dX0_grief_16 : decode cX0_grief 16 = .ok (.iload_n 2, 1) := dk_28 (dk_at dksX0_grief_0 16 rfl rfl)
theorem dX0_grief_17 : decode cX0_grief 17 = .ok (.aload_n 0, 1) := dk_42 (dk_at dksX0_grief_0 17 rfl rfl)
theorem dX0_grief_18 : decode cX0_grief 18 = .ok (.iload_n 1, 1) := dk_27 (dk_at dksX0_grief_0 18 rfl rfl)
theorem dX0_grief_19 : decode cX0_grief 19 = .ok (.invokevirtual 195, 3) := dk_182 0 195 (dk_at dksX0_grief_0 19 rfl rfl)
theorem dX0_grief_22 : decode cX0_grief 22 = .ok (.getfield 234, 3) := dk_180 0 234 (dk_at dksX0_grief_1 0 rfl rfl)
theorem dX0_grief_25 : decode cX0_grief 25 = .ok (.if_icmp .ge 16, 3) := dk_162 0 16 (dk_at dksX0_grief_1 3 rfl rfl)
theorem dX0_grief_28 : decode cX0_grief 28 = .ok (.aload_n 0, 1) := dk_42 (dk_at dksX0_grief_1 6 rfl rfl)
theorem dX0_grief_29 : decode cX0_grief 29 = .ok (.iload_n 1, 1) := dk_27 (dk_at dksX0_grief_1 7 rfl rfl)
theorem dX0_grief_30 : decode cX0_grief 30 = .ok (.invokevirtual 195, 3) := dk_182 0 195 (dk_at dksX0_grief_1 8 rfl rfl)
theorem dX0_grief_33 : decode cX0_grief 33 = .ok (.getfield 236, 3) := dk_180 0 236 (dk_at dksX0_grief_1 11 rfl rfl)
theorem dX0_grief_36 : decode cX0_grief 36 = .ok (.iload_n 2, 1) := dk_28 (dk_at dksX0_grief_1 14 rfl rfl)
theorem dX0_grief_37 : decode cX0_grief 37 = .ok (.iaload, 1) := dk_46 (dk_at dksX0_grief_1 15 rfl rfl)
theorem dX0_grief_38 : decode cX0_grief 38 = .ok (.goto 4, 3) := dk_167 0 4 (dk_at dksX0_grief_1 16 rfl rfl)
theorem dX0_grief_41 : decode cX0_grief 41 = .ok (.iconst (-1), 1) := dk_2 (dk_at dksX0_grief_1 19 rfl rfl)
theorem dX0_grief_42 : decode cX0_grief 42 = .ok (.ireturn, 1) := dk_172 (dk_at dksX0_grief_1 20 rfl rfl)
abbrev cX0_at : ByteArray := prog_1_method_33_code
def yX0_at : MethodName := ⟨RX0, "at", "(II)I"⟩
def dkwX0_at_1 : List UInt8 := [182, 0, 194, 27, 28, 182, 0, 241, 184, 0, 226, 167, 0, 5, 16, 254, 172]
abbrev dktX0_at_1 : List UInt8 := dkwX0_at_1 ++ []
def dkwX0_at_0 : List UInt8 := [42, 27, 133, 182, 0, 138, 153, 0, 30, 28, 133, 9, 20, 0, 239, 184, 0, 11, 153, 0, 18, 42]
abbrev dktX0_at_0 : List UInt8 := dkwX0_at_0 ++ dktX0_at_1
theorem dksX0_at_0 : cX0_at.data.toList.drop 0 = dktX0_at_0 := by decide +kernel
theorem dksX0_at_1 : cX0_at.data.toList.drop 22 = dktX0_at_1 := dk_seg dksX0_at_0 22 rfl rfl
theorem dX0_at_0 : decode cX0_at 0 = .ok (.aload_n 0, 1) := dk_42 (dk_at dksX0_at_0 0 rfl rfl)
theorem dX0_at_1 : decode cX0_at 1 = .ok (.iload_n 1, 1) := dk_27 (dk_at dksX0_at_0 1 rfl rfl)
theorem dX0_at_2 : decode cX0_at 2 = .ok (.i2l, 1) := dk_133 (dk_at dksX0_at_0 2 rfl rfl)
theorem dX0_at_3 : decode cX0_at 3 = .ok (.invokevirtual 138, 3) := dk_182 0 138 (dk_at dksX0_at_0 3 rfl rfl)
theorem dX0_at_6 : decode cX0_at 6 = .ok (.ifCond .eq 30, 3) := dk_153 0 30 (dk_at dksX0_at_0 6 rfl rfl)
theorem dX0_at_9 : decode cX0_at 9 = .ok (.iload_n 2, 1) := dk_28 (dk_at dksX0_at_0 9 rfl rfl)
theorem dX0_at_10 : decode cX0_at 10 = .ok (.i2l, 1) := dk_133 (dk_at dksX0_at_0 10 rfl rfl)
theorem dX0_at_11 : decode cX0_at 11 = .ok (.lconst 0, 1) := dk_9 (dk_at dksX0_at_0 11 rfl rfl)
theorem dX0_at_12 : decode cX0_at 12 = .ok (.ldc2_w 239, 3) := dk_20 0 239 (dk_at dksX0_at_0 12 rfl rfl)
theorem dX0_at_15 : decode cX0_at 15 = .ok (.invokestatic 11, 3) := dk_184 0 11 (dk_at dksX0_at_0 15 rfl rfl)
theorem dX0_at_18 : decode cX0_at 18 = .ok (.ifCond .eq 18, 3) := dk_153 0 18 (dk_at dksX0_at_0 18 rfl rfl)
theorem dX0_at_21 : decode cX0_at 21 = .ok (.aload_n 0, 1) := dk_42 (dk_at dksX0_at_0 21 rfl rfl)
theorem dX0_at_22 : decode cX0_at 22 = .ok (.invokevirtual 194, 3) := dk_182 0 194 (dk_at dksX0_at_1 0 rfl rfl)
theorem dX0_at_25 : decode cX0_at 25 = .ok (.iload_n 1, 1) := dk_27 (dk_at dksX0_at_1 3 rfl rfl)
theorem dX0_at_26 : decode cX0_at 26 = .ok (.iload_n 2, 1) := dk_28 (dk_at dksX0_at_1 4 rfl rfl)
theorem dX0_at_27 : decode cX0_at 27 = .ok (.invokevirtual 241, 3) := dk_182 0 241 (dk_at dksX0_at_1 5 rfl rfl)
theorem dX0_at_30 : decode cX0_at 30 = .ok (.invokestatic 226, 3) := dk_184 0 226 (dk_at dksX0_at_1 8 rfl rfl)
theorem dX0_at_33 : decode cX0_at 33 = .ok (.goto 5, 3) := dk_167 0 5 (dk_at dksX0_at_1 11 rfl rfl)
theorem dX0_at_36 : decode cX0_at 36 = .ok (.bipush (-2), 2) := dk_16 254 (dk_at dksX0_at_1 14 rfl rfl)
theorem dX0_at_38 : decode cX0_at 38 = .ok (.ireturn, 1) := dk_172 (dk_at dksX0_at_1 16 rfl rfl)
abbrev cX0_steps : ByteArray := prog_1_method_34_code
def yX0_steps : MethodName := ⟨RX0, "steps", "(I)I"⟩
def dkwX0_steps_0 : List UInt8 := [42, 27, 133, 182, 0, 138, 153, 0, 15, 42, 182, 0, 194, 180, 0, 202, 27, 46, 167, 0, 5, 16, 254, 172]
abbrev dktX0_steps_0 : List UInt8 := dkwX0_steps_0 ++ []
theorem dksX0_steps_0 : cX0_steps.data.toList.drop 0 = dktX0_steps_0 := by decide +kernel
theorem dX0_steps_0 : decode cX0_steps 0 = .ok (.aload_n 0, 1) := dk_42 (dk_at dksX0_steps_0 0 rfl rfl)
theorem dX0_steps_1 : decode cX0_steps 1 = .ok (.iload_n 1, 1) := dk_27 (dk_at dksX0_steps_0 1 rfl rfl)
theorem dX0_steps_2 : decode cX0_steps 2 = .ok (.i2l, 1) := dk_133 (dk_at dksX0_steps_0 2 rfl rfl)
theorem dX0_steps_3 : decode cX0_steps 3 = .ok (.invokevirtual 138, 3) := dk_182 0 138 (dk_at dksX0_steps_0 3 rfl rfl)
theorem dX0_steps_6 : decode cX0_steps 6 = .ok (.ifCond .eq 15, 3) := dk_153 0 15 (dk_at dksX0_steps_0 6 rfl rfl)
theorem dX0_steps_9 : decode cX0_steps 9 = .ok (.aload_n 0, 1) := dk_42 (dk_at dksX0_steps_0 9 rfl rfl)
theorem dX0_steps_10 : decode cX0_steps 10 = .ok (.invokevirtual 194, 3) := dk_182 0 194 (dk_at dksX0_steps_0 10 rfl rfl)
theorem dX0_steps_13 : decode cX0_steps 13 = .ok (.getfield 202, 3) := dk_180 0 202 (dk_at dksX0_steps_0 13 rfl rfl)
theorem dX0_steps_16 : decode cX0_steps 16 = .ok (.iload_n 1, 1) := dk_27 (dk_at dksX0_steps_0 16 rfl rfl)
theorem dX0_steps_17 : decode cX0_steps 17 = .ok (.iaload, 1) := dk_46 (dk_at dksX0_steps_0 17 rfl rfl)
theorem dX0_steps_18 : decode cX0_steps 18 = .ok (.goto 5, 3) := dk_167 0 5 (dk_at dksX0_steps_0 18 rfl rfl)
theorem dX0_steps_21 : decode cX0_steps 21 = .ok (.bipush (-2), 2) := dk_16 254 (dk_at dksX0_steps_0 21 rfl rfl)
theorem dX0_steps_23 : decode cX0_steps 23 = .ok (.ireturn, 1) := dk_172 (dk_at dksX0_steps_0 23 rfl rfl)
abbrev cX0_stands : ByteArray := prog_1_method_35_code
def yX0_stands : MethodName := ⟨RX0, "stands", "(I)I"⟩
def dkwX0_stands_0 : List UInt8 := [42, 27, 133, 182, 0, 138, 153, 0, 15, 42, 182, 0, 194, 180, 0, 245, 27, 46, 167, 0, 5, 16, 254, 172]
abbrev dktX0_stands_0 : List UInt8 := dkwX0_stands_0 ++ []
theorem dksX0_stands_0 : cX0_stands.data.toList.drop 0 = dktX0_stands_0 := by decide +kernel
theorem dX0_stands_0 : decode cX0_stands 0 = .ok (.aload_n 0, 1) := dk_42 (dk_at dksX0_stands_0 0 rfl rfl)
theorem dX0_stands_1 : decode cX0_stands 1 = .ok (.iload_n 1, 1) := dk_27 (dk_at dksX0_stands_0 1 rfl rfl)
theorem dX0_stands_2 : decode cX0_stands 2 = .ok (.i2l, 1) := dk_133 (dk_at dksX0_stands_0 2 rfl rfl)
theorem dX0_stands_3 : decode cX0_stands 3 = .ok (.invokevirtual 138, 3) := dk_182 0 138 (dk_at dksX0_stands_0 3 rfl rfl)
theorem dX0_stands_6 : decode cX0_stands 6 = .ok (.ifCond .eq 15, 3) := dk_153 0 15 (dk_at dksX0_stands_0 6 rfl rfl)
theorem dX0_stands_9 : decode cX0_stands 9 = .ok (.aload_n 0, 1) := dk_42 (dk_at dksX0_stands_0 9 rfl rfl)
theorem dX0_stands_10 : decode cX0_stands 10 = .ok (.invokevirtual 194, 3) := dk_182 0 194 (dk_at dksX0_stands_0 10 rfl rfl)
theorem dX0_stands_13 : decode cX0_stands 13 = .ok (.getfield 245, 3) := dk_180 0 245 (dk_at dksX0_stands_0 13 rfl rfl)
theorem dX0_stands_16 : decode cX0_stands 16 = .ok (.iload_n 1, 1) := dk_27 (dk_at dksX0_stands_0 16 rfl rfl)
theorem dX0_stands_17 : decode cX0_stands 17 = .ok (.iaload, 1) := dk_46 (dk_at dksX0_stands_0 17 rfl rfl)
theorem dX0_stands_18 : decode cX0_stands 18 = .ok (.goto 5, 3) := dk_167 0 5 (dk_at dksX0_stands_0 18 rfl rfl)
theorem dX0_stands_21 : decode cX0_stands 21 = .ok (.bipush (-2), 2) := dk_16 254 (dk_at dksX0_stands_0 21 rfl rfl)
theorem dX0_stands_23 : decode cX0_stands 23 = .ok (.ireturn, 1) := dk_172 (dk_at dksX0_stands_0 23 rfl rfl)
abbrev cX0_ground : ByteArray := prog_1_method_36_code
def yX0_ground : MethodName := ⟨RX0, "ground", "(I)I"⟩
def dkwX0_ground_1 : List UInt8 := [160, 0, 7, 2, 167, 0, 15, 42, 180, 0, 68, 180, 0, 248, 27, 47, 184, 0, 252, 172]
abbrev dktX0_ground_1 : List UInt8 := dkwX0_ground_1 ++ []
def dkwX0_ground_0 : List UInt8 := [42, 27, 133, 182, 0, 138, 154, 0, 6, 16, 254, 172, 42, 182, 0, 194, 180, 0, 202, 27, 46, 2]
abbrev dktX0_ground_0 : List UInt8 := dkwX0_ground_0 ++ dktX0_ground_1
theorem dksX0_ground_0 : cX0_ground.data.toList.drop 0 = dktX0_ground_0 := by decide +kernel
theorem dksX0_ground_1 : cX0_ground.data.toList.drop 22 = dktX0_ground_1 := dk_seg dksX0_ground_0 22 rfl rfl
theorem dX0_ground_0 : decode cX0_ground 0 = .ok (.aload_n 0, 1) := dk_42 (dk_at dksX0_ground_0 0 rfl rfl)
theorem dX0_ground_1 : decode cX0_ground 1 = .ok (.iload_n 1, 1) := dk_27 (dk_at dksX0_ground_0 1 rfl rfl)
theorem dX0_ground_2 : decode cX0_ground 2 = .ok (.i2l, 1) := dk_133 (dk_at dksX0_ground_0 2 rfl rfl)
theorem dX0_ground_3 : decode cX0_ground 3 = .ok (.invokevirtual 138, 3) := dk_182 0 138 (dk_at dksX0_ground_0 3 rfl rfl)
theorem dX0_ground_6 : decode cX0_ground 6 = .ok (.ifCond .ne 6, 3) := dk_154 0 6 (dk_at dksX0_ground_0 6 rfl rfl)
theorem dX0_ground_9 : decode cX0_ground 9 = .ok (.bipush (-2), 2) := dk_16 254 (dk_at dksX0_ground_0 9 rfl rfl)
theorem dX0_ground_11 : decode cX0_ground 11 = .ok (.ireturn, 1) := dk_172 (dk_at dksX0_ground_0 11 rfl rfl)
theorem dX0_ground_12 : decode cX0_ground 12 = .ok (.aload_n 0, 1) := dk_42 (dk_at dksX0_ground_0 12 rfl rfl)
theorem dX0_ground_13 : decode cX0_ground 13 = .ok (.invokevirtual 194, 3) := dk_182 0 194 (dk_at dksX0_ground_0 13 rfl rfl)
theorem dX0_ground_16 : decode cX0_ground 16 = .ok (.getfield 202, 3) := dk_180 0 202 (dk_at dksX0_ground_0 16 rfl rfl)
theorem dX0_ground_19 : decode cX0_ground 19 = .ok (.iload_n 1, 1) := dk_27 (dk_at dksX0_ground_0 19 rfl rfl)
theorem dX0_ground_20 : decode cX0_ground 20 = .ok (.iaload, 1) := dk_46 (dk_at dksX0_ground_0 20 rfl rfl)
theorem dX0_ground_21 : decode cX0_ground 21 = .ok (.iconst (-1), 1) := dk_2 (dk_at dksX0_ground_0 21 rfl rfl)
theorem dX0_ground_22 : decode cX0_ground 22 = .ok (.if_icmp .ne 7, 3) := dk_160 0 7 (dk_at dksX0_ground_1 0 rfl rfl)
theorem dX0_ground_25 : decode cX0_ground 25 = .ok (.iconst (-1), 1) := dk_2 (dk_at dksX0_ground_1 3 rfl rfl)
theorem dX0_ground_26 : decode cX0_ground 26 = .ok (.goto 15, 3) := dk_167 0 15 (dk_at dksX0_ground_1 4 rfl rfl)
theorem dX0_ground_29 : decode cX0_ground 29 = .ok (.aload_n 0, 1) := dk_42 (dk_at dksX0_ground_1 7 rfl rfl)
theorem dX0_ground_30 : decode cX0_ground 30 = .ok (.getfield 68, 3) := dk_180 0 68 (dk_at dksX0_ground_1 8 rfl rfl)
theorem dX0_ground_33 : decode cX0_ground 33 = .ok (.getfield 248, 3) := dk_180 0 248 (dk_at dksX0_ground_1 11 rfl rfl)
theorem dX0_ground_36 : decode cX0_ground 36 = .ok (.iload_n 1, 1) := dk_27 (dk_at dksX0_ground_1 14 rfl rfl)
theorem dX0_ground_37 : decode cX0_ground 37 = .ok (.laload, 1) := dk_47 (dk_at dksX0_ground_1 15 rfl rfl)
theorem dX0_ground_38 : decode cX0_ground 38 = .ok (.invokestatic 252, 3) := dk_184 0 252 (dk_at dksX0_ground_1 16 rfl rfl)
theorem dX0_ground_41 : decode cX0_ground 41 = .ok (.ireturn, 1) := dk_172 (dk_at dksX0_ground_1 19 rfl rfl)
abbrev cX0_loop : ByteArray := prog_1_method_37_code
def yX0_loop : MethodName := ⟨RX0, "loop", "(I)I"⟩
def dkwX0_loop_3 : List UInt8 := [182, 0, 241, 159, 0, 5, 28, 172, 132, 2, 1, 167, 255, 194, 2, 172]
abbrev dktX0_loop_3 : List UInt8 := dkwX0_loop_3 ++ []
def dkwX0_loop_2 : List UInt8 := [182, 0, 241, 160, 0, 28, 42, 180, 0, 68, 27, 28, 4, 100, 182, 0, 241, 42, 180, 0, 68, 27, 3]
abbrev dktX0_loop_2 : List UInt8 := dkwX0_loop_2 ++ dktX0_loop_3
def dkwX0_loop_1 : List UInt8 := [180, 0, 202, 27, 46, 163, 0, 55, 42, 180, 0, 68, 27, 28, 182, 0, 241, 42, 180, 0, 68, 27, 3]
abbrev dktX0_loop_1 : List UInt8 := dkwX0_loop_1 ++ dktX0_loop_2
def dkwX0_loop_0 : List UInt8 := [42, 27, 133, 182, 0, 138, 154, 0, 6, 16, 254, 172, 42, 182, 0, 194, 87, 4, 61, 28, 42, 180, 0, 68]
abbrev dktX0_loop_0 : List UInt8 := dkwX0_loop_0 ++ dktX0_loop_1
theorem dksX0_loop_0 : cX0_loop.data.toList.drop 0 = dktX0_loop_0 := by decide +kernel
theorem dksX0_loop_1 : cX0_loop.data.toList.drop 24 = dktX0_loop_1 := dk_seg dksX0_loop_0 24 rfl rfl
theorem dksX0_loop_2 : cX0_loop.data.toList.drop 47 = dktX0_loop_2 := dk_seg dksX0_loop_1 23 rfl rfl
theorem dksX0_loop_3 : cX0_loop.data.toList.drop 70 = dktX0_loop_3 := dk_seg dksX0_loop_2 23 rfl rfl
theorem dX0_loop_0 : decode cX0_loop 0 = .ok (.aload_n 0, 1) := dk_42 (dk_at dksX0_loop_0 0 rfl rfl)
theorem dX0_loop_1 : decode cX0_loop 1 = .ok (.iload_n 1, 1) := dk_27 (dk_at dksX0_loop_0 1 rfl rfl)
theorem dX0_loop_2 : decode cX0_loop 2 = .ok (.i2l, 1) := dk_133 (dk_at dksX0_loop_0 2 rfl rfl)
theorem dX0_loop_3 : decode cX0_loop 3 = .ok (.invokevirtual 138, 3) := dk_182 0 138 (dk_at dksX0_loop_0 3 rfl rfl)
theorem dX0_loop_6 : decode cX0_loop 6 = .ok (.ifCond .ne 6, 3) := dk_154 0 6 (dk_at dksX0_loop_0 6 rfl rfl)
theorem dX0_loop_9 : decode cX0_loop 9 = .ok (.bipush (-2), 2) := dk_16 254 (dk_at dksX0_loop_0 9 rfl rfl)
theorem dX0_loop_11 : decode cX0_loop 11 = .ok (.ireturn, 1) := dk_172 (dk_at dksX0_loop_0 11 rfl rfl)
theorem dX0_loop_12 : decode cX0_loop 12 = .ok (.aload_n 0, 1) := dk_42 (dk_at dksX0_loop_0 12 rfl rfl)
theorem dX0_loop_13 : decode cX0_loop 13 = .ok (.invokevirtual 194, 3) := dk_182 0 194 (dk_at dksX0_loop_0 13 rfl rfl)
theorem dX0_loop_16 : decode cX0_loop 16 = .ok (.pop, 1) := dk_87 (dk_at dksX0_loop_0 16 rfl rfl)
theorem dX0_loop_17 : decode cX0_loop 17 = .ok (.iconst 1, 1) := dk_4 (dk_at dksX0_loop_0 17 rfl rfl)
theorem dX0_loop_18 : decode cX0_loop 18 = .ok (.istore_n 2, 1) := dk_61 (dk_at dksX0_loop_0 18 rfl rfl)
theorem dX0_loop_19 : decode cX0_loop 19 = .ok (.iload_n 2, 1) := dk_28 (dk_at dksX0_loop_0 19 rfl rfl)
theorem dX0_loop_20 : decode cX0_loop 20 = .ok (.aload_n 0, 1) := dk_42 (dk_at dksX0_loop_0 20 rfl rfl)
theorem dX0_loop_21 : decode cX0_loop 21 = .ok (.getfield 68, 3) := dk_180 0 68 (dk_at dksX0_loop_0 21 rfl rfl)
theorem dX0_loop_24 : decode cX0_loop 24 = .ok (.getfield 202, 3) := dk_180 0 202 (dk_at dksX0_loop_1 0 rfl rfl)
theorem dX0_loop_27 : decode cX0_loop 27 = .ok (.iload_n 1, 1) := dk_27 (dk_at dksX0_loop_1 3 rfl rfl)
theorem dX0_loop_28 : decode cX0_loop 28 = .ok (.iaload, 1) := dk_46 (dk_at dksX0_loop_1 4 rfl rfl)
theorem dX0_loop_29 : decode cX0_loop 29 = .ok (.if_icmp .gt 55, 3) := dk_163 0 55 (dk_at dksX0_loop_1 5 rfl rfl)
theorem dX0_loop_32 : decode cX0_loop 32 = .ok (.aload_n 0, 1) := dk_42 (dk_at dksX0_loop_1 8 rfl rfl)
theorem dX0_loop_33 : decode cX0_loop 33 = .ok (.getfield 68, 3) := dk_180 0 68 (dk_at dksX0_loop_1 9 rfl rfl)
theorem dX0_loop_36 : decode cX0_loop 36 = .ok (.iload_n 1, 1) := dk_27 (dk_at dksX0_loop_1 12 rfl rfl)
theorem dX0_loop_37 : decode cX0_loop 37 = .ok (.iload_n 2, 1) := dk_28 (dk_at dksX0_loop_1 13 rfl rfl)
theorem dX0_loop_38 : decode cX0_loop 38 = .ok (.invokevirtual 241, 3) := dk_182 0 241 (dk_at dksX0_loop_1 14 rfl rfl)
theorem dX0_loop_41 : decode cX0_loop 41 = .ok (.aload_n 0, 1) := dk_42 (dk_at dksX0_loop_1 17 rfl rfl)
theorem dX0_loop_42 : decode cX0_loop 42 = .ok (.getfield 68, 3) := dk_180 0 68 (dk_at dksX0_loop_1 18 rfl rfl)
theorem dX0_loop_45 : decode cX0_loop 45 = .ok (.iload_n 1, 1) := dk_27 (dk_at dksX0_loop_1 21 rfl rfl)
theorem dX0_loop_46 : decode cX0_loop 46 = .ok (.iconst 0, 1) := dk_3 (dk_at dksX0_loop_1 22 rfl rfl)
theorem dX0_loop_47 : decode cX0_loop 47 = .ok (.invokevirtual 241, 3) := dk_182 0 241 (dk_at dksX0_loop_2 0 rfl rfl)
theorem dX0_loop_50 : decode cX0_loop 50 = .ok (.if_icmp .ne 28, 3) := dk_160 0 28 (dk_at dksX0_loop_2 3 rfl rfl)
theorem dX0_loop_53 : decode cX0_loop 53 = .ok (.aload_n 0, 1) := dk_42 (dk_at dksX0_loop_2 6 rfl rfl)
theorem dX0_loop_54 : decode cX0_loop 54 = .ok (.getfield 68, 3) := dk_180 0 68 (dk_at dksX0_loop_2 7 rfl rfl)
theorem dX0_loop_57 : decode cX0_loop 57 = .ok (.iload_n 1, 1) := dk_27 (dk_at dksX0_loop_2 10 rfl rfl)
theorem dX0_loop_58 : decode cX0_loop 58 = .ok (.iload_n 2, 1) := dk_28 (dk_at dksX0_loop_2 11 rfl rfl)
theorem dX0_loop_59 : decode cX0_loop 59 = .ok (.iconst 1, 1) := dk_4 (dk_at dksX0_loop_2 12 rfl rfl)
theorem dX0_loop_60 : decode cX0_loop 60 = .ok (.isub, 1) := dk_100 (dk_at dksX0_loop_2 13 rfl rfl)
theorem dX0_loop_61 : decode cX0_loop 61 = .ok (.invokevirtual 241, 3) := dk_182 0 241 (dk_at dksX0_loop_2 14 rfl rfl)
theorem dX0_loop_64 : decode cX0_loop 64 = .ok (.aload_n 0, 1) := dk_42 (dk_at dksX0_loop_2 17 rfl rfl)
theorem dX0_loop_65 : decode cX0_loop 65 = .ok (.getfield 68, 3) := dk_180 0 68 (dk_at dksX0_loop_2 18 rfl rfl)
theorem dX0_loop_68 : decode cX0_loop 68 = .ok (.iload_n 1, 1) := dk_27 (dk_at dksX0_loop_2 21 rfl rfl)
theorem dX0_loop_69 : decode cX0_loop 69 = .ok (.iconst 0, 1) := dk_3 (dk_at dksX0_loop_2 22 rfl rfl)
theorem dX0_loop_70 : decode cX0_loop 70 = .ok (.invokevirtual 241, 3) := dk_182 0 241 (dk_at dksX0_loop_3 0 rfl rfl)
theorem dX0_loop_73 : decode cX0_loop 73 = .ok (.if_icmp .eq 5, 3) := dk_159 0 5 (dk_at dksX0_loop_3 3 rfl rfl)
theorem dX0_loop_76 : decode cX0_loop 76 = .ok (.iload_n 2, 1) := dk_28 (dk_at dksX0_loop_3 6 rfl rfl)
theorem dX0_loop_77 : decode cX0_loop 77 = .ok (.ireturn, 1) := dk_172 (dk_at dksX0_loop_3 7 rfl rfl)
theorem dX0_loop_78 : decode cX0_loop 78 = .ok (.iinc 2 1, 3) := dk_132 2 1 (dk_at dksX0_loop_3 8 rfl rfl)
theorem dX0_loop_81 : decode cX0_loop 81 = .ok (.goto (-62), 3) := dk_167 255 194 (dk_at dksX0_loop_3 11 rfl rfl)
theorem dX0_loop_84 : decode cX0_loop 84 = .ok (.iconst (-1), 1) := dk_2 (dk_at dksX0_loop_3 14 rfl rfl)
theorem dX0_loop_85 : decode cX0_loop 85 = .ok (.ireturn, 1) := dk_172 (dk_at dksX0_loop_3 15 rfl rfl)
abbrev cX0_haunt : ByteArray := prog_1_method_39_code
def yX0_haunt : MethodName := ⟨RX0, "haunt", "(I)I"⟩
def dkwX0_haunt_2 : List UInt8 := [182, 1, 0, 164, 0, 5, 29, 61, 132, 3, 1, 167, 255, 230, 28, 184, 0, 226, 172]
abbrev dktX0_haunt_2 : List UInt8 := dkwX0_haunt_2 ++ []
def dkwX0_haunt_1 : List UInt8 := [160, 0, 5, 2, 172, 3, 61, 4, 62, 29, 16, 64, 162, 0, 26, 42, 27, 29, 182, 1, 0, 42, 27, 28]
abbrev dktX0_haunt_1 : List UInt8 := dkwX0_haunt_1 ++ dktX0_haunt_2
def dkwX0_haunt_0 : List UInt8 := [42, 27, 133, 182, 0, 138, 154, 0, 6, 16, 254, 172, 42, 182, 0, 194, 180, 0, 202, 27, 46, 2]
abbrev dktX0_haunt_0 : List UInt8 := dkwX0_haunt_0 ++ dktX0_haunt_1
theorem dksX0_haunt_0 : cX0_haunt.data.toList.drop 0 = dktX0_haunt_0 := by decide +kernel
theorem dksX0_haunt_1 : cX0_haunt.data.toList.drop 22 = dktX0_haunt_1 := dk_seg dksX0_haunt_0 22 rfl rfl
theorem dksX0_haunt_2 : cX0_haunt.data.toList.drop 46 = dktX0_haunt_2 := dk_seg dksX0_haunt_1 24 rfl rfl
theorem dX0_haunt_0 : decode cX0_haunt 0 = .ok (.aload_n 0, 1) := dk_42 (dk_at dksX0_haunt_0 0 rfl rfl)
theorem dX0_haunt_1 : decode cX0_haunt 1 = .ok (.iload_n 1, 1) := dk_27 (dk_at dksX0_haunt_0 1 rfl rfl)
theorem dX0_haunt_2 : decode cX0_haunt 2 = .ok (.i2l, 1) := dk_133 (dk_at dksX0_haunt_0 2 rfl rfl)
theorem dX0_haunt_3 : decode cX0_haunt 3 = .ok (.invokevirtual 138, 3) := dk_182 0 138 (dk_at dksX0_haunt_0 3 rfl rfl)
theorem dX0_haunt_6 : decode cX0_haunt 6 = .ok (.ifCond .ne 6, 3) := dk_154 0 6 (dk_at dksX0_haunt_0 6 rfl rfl)
theorem dX0_haunt_9 : decode cX0_haunt 9 = .ok (.bipush (-2), 2) := dk_16 254 (dk_at dksX0_haunt_0 9 rfl rfl)
theorem dX0_haunt_11 : decode cX0_haunt 11 = .ok (.ireturn, 1) := dk_172 (dk_at dksX0_haunt_0 11 rfl rfl)
theorem dX0_haunt_12 : decode cX0_haunt 12 = .ok (.aload_n 0, 1) := dk_42 (dk_at dksX0_haunt_0 12 rfl rfl)
theorem dX0_haunt_13 : decode cX0_haunt 13 = .ok (.invokevirtual 194, 3) := dk_182 0 194 (dk_at dksX0_haunt_0 13 rfl rfl)
theorem dX0_haunt_16 : decode cX0_haunt 16 = .ok (.getfield 202, 3) := dk_180 0 202 (dk_at dksX0_haunt_0 16 rfl rfl)
theorem dX0_haunt_19 : decode cX0_haunt 19 = .ok (.iload_n 1, 1) := dk_27 (dk_at dksX0_haunt_0 19 rfl rfl)
theorem dX0_haunt_20 : decode cX0_haunt 20 = .ok (.iaload, 1) := dk_46 (dk_at dksX0_haunt_0 20 rfl rfl)
theorem dX0_haunt_21 : decode cX0_haunt 21 = .ok (.iconst (-1), 1) := dk_2 (dk_at dksX0_haunt_0 21 rfl rfl)
theorem dX0_haunt_22 : decode cX0_haunt 22 = .ok (.if_icmp .ne 5, 3) := dk_160 0 5 (dk_at dksX0_haunt_1 0 rfl rfl)
theorem dX0_haunt_25 : decode cX0_haunt 25 = .ok (.iconst (-1), 1) := dk_2 (dk_at dksX0_haunt_1 3 rfl rfl)
theorem dX0_haunt_26 : decode cX0_haunt 26 = .ok (.ireturn, 1) := dk_172 (dk_at dksX0_haunt_1 4 rfl rfl)
theorem dX0_haunt_27 : decode cX0_haunt 27 = .ok (.iconst 0, 1) := dk_3 (dk_at dksX0_haunt_1 5 rfl rfl)
theorem dX0_haunt_28 : decode cX0_haunt 28 = .ok (.istore_n 2, 1) := dk_61 (dk_at dksX0_haunt_1 6 rfl rfl)
theorem dX0_haunt_29 : decode cX0_haunt 29 = .ok (.iconst 1, 1) := dk_4 (dk_at dksX0_haunt_1 7 rfl rfl)
theorem dX0_haunt_30 : decode cX0_haunt 30 = .ok (.istore_n 3, 1) := dk_62 (dk_at dksX0_haunt_1 8 rfl rfl)
theorem dX0_haunt_31 : decode cX0_haunt 31 = .ok (.iload_n 3, 1) := dk_29 (dk_at dksX0_haunt_1 9 rfl rfl)
theorem dX0_haunt_32 : decode cX0_haunt 32 = .ok (.bipush 64, 2) := dk_16 64 (dk_at dksX0_haunt_1 10 rfl rfl)
theorem dX0_haunt_34 : decode cX0_haunt 34 = .ok (.if_icmp .ge 26, 3) := dk_162 0 26 (dk_at dksX0_haunt_1 12 rfl rfl)
theorem dX0_haunt_37 : decode cX0_haunt 37 = .ok (.aload_n 0, 1) := dk_42 (dk_at dksX0_haunt_1 15 rfl rfl)
theorem dX0_haunt_38 : decode cX0_haunt 38 = .ok (.iload_n 1, 1) := dk_27 (dk_at dksX0_haunt_1 16 rfl rfl)
theorem dX0_haunt_39 : decode cX0_haunt 39 = .ok (.iload_n 3, 1) := dk_29 (dk_at dksX0_haunt_1 17 rfl rfl)
theorem dX0_haunt_40 : decode cX0_haunt 40 = .ok (.invokevirtual 256, 3) := dk_182 1 0 (dk_at dksX0_haunt_1 18 rfl rfl)
theorem dX0_haunt_43 : decode cX0_haunt 43 = .ok (.aload_n 0, 1) := dk_42 (dk_at dksX0_haunt_1 21 rfl rfl)
theorem dX0_haunt_44 : decode cX0_haunt 44 = .ok (.iload_n 1, 1) := dk_27 (dk_at dksX0_haunt_1 22 rfl rfl)
theorem dX0_haunt_45 : decode cX0_haunt 45 = .ok (.iload_n 2, 1) := dk_28 (dk_at dksX0_haunt_1 23 rfl rfl)
theorem dX0_haunt_46 : decode cX0_haunt 46 = .ok (.invokevirtual 256, 3) := dk_182 1 0 (dk_at dksX0_haunt_2 0 rfl rfl)
theorem dX0_haunt_49 : decode cX0_haunt 49 = .ok (.if_icmp .le 5, 3) := dk_164 0 5 (dk_at dksX0_haunt_2 3 rfl rfl)
theorem dX0_haunt_52 : decode cX0_haunt 52 = .ok (.iload_n 3, 1) := dk_29 (dk_at dksX0_haunt_2 6 rfl rfl)
theorem dX0_haunt_53 : decode cX0_haunt 53 = .ok (.istore_n 2, 1) := dk_61 (dk_at dksX0_haunt_2 7 rfl rfl)
theorem dX0_haunt_54 : decode cX0_haunt 54 = .ok (.iinc 3 1, 3) := dk_132 3 1 (dk_at dksX0_haunt_2 8 rfl rfl)
theorem dX0_haunt_57 : decode cX0_haunt 57 = .ok (.goto (-26), 3) := dk_167 255 230 (dk_at dksX0_haunt_2 11 rfl rfl)
theorem dX0_haunt_60 : decode cX0_haunt 60 = .ok (.iload_n 2, 1) := dk_28 (dk_at dksX0_haunt_2 14 rfl rfl)
theorem dX0_haunt_61 : decode cX0_haunt 61 = .ok (.invokestatic 226, 3) := dk_184 0 226 (dk_at dksX0_haunt_2 15 rfl rfl)
theorem dX0_haunt_64 : decode cX0_haunt 64 = .ok (.ireturn, 1) := dk_172 (dk_at dksX0_haunt_2 18 rfl rfl)
abbrev cX0_visitsOf : ByteArray := prog_1_method_38_code
def yX0_visitsOf : MethodName := ⟨RX0, "visitsOf", "(II)I"⟩
def dkwX0_visitsOf_2 : List UInt8 := [172]
abbrev dktX0_visitsOf_2 : List UInt8 := dkwX0_visitsOf_2 ++ []
def dkwX0_visitsOf_1 : List UInt8 := [27, 21, 4, 182, 0, 241, 28, 160, 0, 7, 4, 167, 0, 4, 3, 96, 62, 132, 4, 1, 167, 255, 217, 29]
abbrev dktX0_visitsOf_1 : List UInt8 := dkwX0_visitsOf_1 ++ dktX0_visitsOf_2
def dkwX0_visitsOf_0 : List UInt8 := [3, 62, 3, 54, 4, 21, 4, 42, 180, 0, 68, 180, 0, 202, 27, 46, 163, 0, 31, 29, 42, 180, 0, 68]
abbrev dktX0_visitsOf_0 : List UInt8 := dkwX0_visitsOf_0 ++ dktX0_visitsOf_1
theorem dksX0_visitsOf_0 : cX0_visitsOf.data.toList.drop 0 = dktX0_visitsOf_0 := by decide +kernel
theorem dksX0_visitsOf_1 : cX0_visitsOf.data.toList.drop 24 = dktX0_visitsOf_1 := dk_seg dksX0_visitsOf_0 24 rfl rfl
theorem dksX0_visitsOf_2 : cX0_visitsOf.data.toList.drop 48 = dktX0_visitsOf_2 := dk_seg dksX0_visitsOf_1 24 rfl rfl
theorem dX0_visitsOf_0 : decode cX0_visitsOf 0 = .ok (.iconst 0, 1) := dk_3 (dk_at dksX0_visitsOf_0 0 rfl rfl)
theorem dX0_visitsOf_1 : decode cX0_visitsOf 1 = .ok (.istore_n 3, 1) := dk_62 (dk_at dksX0_visitsOf_0 1 rfl rfl)
theorem dX0_visitsOf_2 : decode cX0_visitsOf 2 = .ok (.iconst 0, 1) := dk_3 (dk_at dksX0_visitsOf_0 2 rfl rfl)
theorem dX0_visitsOf_3 : decode cX0_visitsOf 3 = .ok (.istore 4, 2) := dk_54 4 (dk_at dksX0_visitsOf_0 3 rfl rfl)
theorem dX0_visitsOf_5 : decode cX0_visitsOf 5 = .ok (.iload 4, 2) := dk_21 4 (dk_at dksX0_visitsOf_0 5 rfl rfl)
theorem dX0_visitsOf_7 : decode cX0_visitsOf 7 = .ok (.aload_n 0, 1) := dk_42 (dk_at dksX0_visitsOf_0 7 rfl rfl)
theorem dX0_visitsOf_8 : decode cX0_visitsOf 8 = .ok (.getfield 68, 3) := dk_180 0 68 (dk_at dksX0_visitsOf_0 8 rfl rfl)
theorem dX0_visitsOf_11 : decode cX0_visitsOf 11 = .ok (.getfield 202, 3) := dk_180 0 202 (dk_at dksX0_visitsOf_0 11 rfl rfl)
theorem dX0_visitsOf_14 : decode cX0_visitsOf 14 = .ok (.iload_n 1, 1) := dk_27 (dk_at dksX0_visitsOf_0 14 rfl rfl)
theorem dX0_visitsOf_15 : decode cX0_visitsOf 15 = .ok (.iaload, 1) := dk_46 (dk_at dksX0_visitsOf_0 15 rfl rfl)
theorem dX0_visitsOf_16 : decode cX0_visitsOf 16 = .ok (.if_icmp .gt 31, 3) := dk_163 0 31 (dk_at dksX0_visitsOf_0 16 rfl rfl)
theorem dX0_visitsOf_19 : decode cX0_visitsOf 19 = .ok (.iload_n 3, 1) := dk_29 (dk_at dksX0_visitsOf_0 19 rfl rfl)
theorem dX0_visitsOf_20 : decode cX0_visitsOf 20 = .ok (.aload_n 0, 1) := dk_42 (dk_at dksX0_visitsOf_0 20 rfl rfl)
theorem dX0_visitsOf_21 : decode cX0_visitsOf 21 = .ok (.getfield 68, 3) := dk_180 0 68 (dk_at dksX0_visitsOf_0 21 rfl rfl)
theorem dX0_visitsOf_24 : decode cX0_visitsOf 24 = .ok (.iload_n 1, 1) := dk_27 (dk_at dksX0_visitsOf_1 0 rfl rfl)
theorem dX0_visitsOf_25 : decode cX0_visitsOf 25 = .ok (.iload 4, 2) := dk_21 4 (dk_at dksX0_visitsOf_1 1 rfl rfl)
theorem dX0_visitsOf_27 : decode cX0_visitsOf 27 = .ok (.invokevirtual 241, 3) := dk_182 0 241 (dk_at dksX0_visitsOf_1 3 rfl rfl)
theorem dX0_visitsOf_30 : decode cX0_visitsOf 30 = .ok (.iload_n 2, 1) := dk_28 (dk_at dksX0_visitsOf_1 6 rfl rfl)
theorem dX0_visitsOf_31 : decode cX0_visitsOf 31 = .ok (.if_icmp .ne 7, 3) := dk_160 0 7 (dk_at dksX0_visitsOf_1 7 rfl rfl)
theorem dX0_visitsOf_34 : decode cX0_visitsOf 34 = .ok (.iconst 1, 1) := dk_4 (dk_at dksX0_visitsOf_1 10 rfl rfl)
theorem dX0_visitsOf_35 : decode cX0_visitsOf 35 = .ok (.goto 4, 3) := dk_167 0 4 (dk_at dksX0_visitsOf_1 11 rfl rfl)
theorem dX0_visitsOf_38 : decode cX0_visitsOf 38 = .ok (.iconst 0, 1) := dk_3 (dk_at dksX0_visitsOf_1 14 rfl rfl)
theorem dX0_visitsOf_39 : decode cX0_visitsOf 39 = .ok (.iadd, 1) := dk_96 (dk_at dksX0_visitsOf_1 15 rfl rfl)
theorem dX0_visitsOf_40 : decode cX0_visitsOf 40 = .ok (.istore_n 3, 1) := dk_62 (dk_at dksX0_visitsOf_1 16 rfl rfl)
theorem dX0_visitsOf_41 : decode cX0_visitsOf 41 = .ok (.iinc 4 1, 3) := dk_132 4 1 (dk_at dksX0_visitsOf_1 17 rfl rfl)
theorem dX0_visitsOf_44 : decode cX0_visitsOf 44 = .ok (.goto (-39), 3) := dk_167 255 217 (dk_at dksX0_visitsOf_1 20 rfl rfl)
theorem dX0_visitsOf_47 : decode cX0_visitsOf 47 = .ok (.iload_n 3, 1) := dk_29 (dk_at dksX0_visitsOf_1 23 rfl rfl)
theorem dX0_visitsOf_48 : decode cX0_visitsOf 48 = .ok (.ireturn, 1) := dk_172 (dk_at dksX0_visitsOf_2 0 rfl rfl)
abbrev cX0_visits : ByteArray := prog_1_method_40_code
def yX0_visits : MethodName := ⟨RX0, "visits", "(II)I"⟩
def dkwX0_visits_1 : List UInt8 := [182, 0, 194, 87, 42, 27, 28, 133, 184, 0, 213, 182, 1, 0, 172]
abbrev dktX0_visits_1 : List UInt8 := dkwX0_visits_1 ++ []
def dkwX0_visits_0 : List UInt8 := [42, 27, 133, 182, 0, 138, 153, 0, 12, 42, 28, 133, 182, 0, 206, 154, 0, 6, 16, 254, 172, 42]
abbrev dktX0_visits_0 : List UInt8 := dkwX0_visits_0 ++ dktX0_visits_1
theorem dksX0_visits_0 : cX0_visits.data.toList.drop 0 = dktX0_visits_0 := by decide +kernel
theorem dksX0_visits_1 : cX0_visits.data.toList.drop 22 = dktX0_visits_1 := dk_seg dksX0_visits_0 22 rfl rfl
theorem dX0_visits_0 : decode cX0_visits 0 = .ok (.aload_n 0, 1) := dk_42 (dk_at dksX0_visits_0 0 rfl rfl)
theorem dX0_visits_1 : decode cX0_visits 1 = .ok (.iload_n 1, 1) := dk_27 (dk_at dksX0_visits_0 1 rfl rfl)
theorem dX0_visits_2 : decode cX0_visits 2 = .ok (.i2l, 1) := dk_133 (dk_at dksX0_visits_0 2 rfl rfl)
theorem dX0_visits_3 : decode cX0_visits 3 = .ok (.invokevirtual 138, 3) := dk_182 0 138 (dk_at dksX0_visits_0 3 rfl rfl)
theorem dX0_visits_6 : decode cX0_visits 6 = .ok (.ifCond .eq 12, 3) := dk_153 0 12 (dk_at dksX0_visits_0 6 rfl rfl)
theorem dX0_visits_9 : decode cX0_visits 9 = .ok (.aload_n 0, 1) := dk_42 (dk_at dksX0_visits_0 9 rfl rfl)
theorem dX0_visits_10 : decode cX0_visits 10 = .ok (.iload_n 2, 1) := dk_28 (dk_at dksX0_visits_0 10 rfl rfl)
theorem dX0_visits_11 : decode cX0_visits 11 = .ok (.i2l, 1) := dk_133 (dk_at dksX0_visits_0 11 rfl rfl)
theorem dX0_visits_12 : decode cX0_visits 12 = .ok (.invokevirtual 206, 3) := dk_182 0 206 (dk_at dksX0_visits_0 12 rfl rfl)
theorem dX0_visits_15 : decode cX0_visits 15 = .ok (.ifCond .ne 6, 3) := dk_154 0 6 (dk_at dksX0_visits_0 15 rfl rfl)
theorem dX0_visits_18 : decode cX0_visits 18 = .ok (.bipush (-2), 2) := dk_16 254 (dk_at dksX0_visits_0 18 rfl rfl)
theorem dX0_visits_20 : decode cX0_visits 20 = .ok (.ireturn, 1) := dk_172 (dk_at dksX0_visits_0 20 rfl rfl)
theorem dX0_visits_21 : decode cX0_visits 21 = .ok (.aload_n 0, 1) := dk_42 (dk_at dksX0_visits_0 21 rfl rfl)
theorem dX0_visits_22 : decode cX0_visits 22 = .ok (.invokevirtual 194, 3) := dk_182 0 194 (dk_at dksX0_visits_1 0 rfl rfl)
theorem dX0_visits_25 : decode cX0_visits 25 = .ok (.pop, 1) := dk_87 (dk_at dksX0_visits_1 3 rfl rfl)
theorem dX0_visits_26 : decode cX0_visits 26 = .ok (.aload_n 0, 1) := dk_42 (dk_at dksX0_visits_1 4 rfl rfl)
theorem dX0_visits_27 : decode cX0_visits 27 = .ok (.iload_n 1, 1) := dk_27 (dk_at dksX0_visits_1 5 rfl rfl)
theorem dX0_visits_28 : decode cX0_visits 28 = .ok (.iload_n 2, 1) := dk_28 (dk_at dksX0_visits_1 6 rfl rfl)
theorem dX0_visits_29 : decode cX0_visits 29 = .ok (.i2l, 1) := dk_133 (dk_at dksX0_visits_1 7 rfl rfl)
theorem dX0_visits_30 : decode cX0_visits 30 = .ok (.invokestatic 213, 3) := dk_184 0 213 (dk_at dksX0_visits_1 8 rfl rfl)
theorem dX0_visits_33 : decode cX0_visits 33 = .ok (.invokevirtual 256, 3) := dk_182 1 0 (dk_at dksX0_visits_1 11 rfl rfl)
theorem dX0_visits_36 : decode cX0_visits 36 = .ok (.ireturn, 1) := dk_172 (dk_at dksX0_visits_1 14 rfl rfl)
abbrev cX0_straight : ByteArray := prog_1_method_42_code
def yX0_straight : MethodName := ⟨RX0, "straight", "(I)I"⟩
def dkwX0_straight_2 : List UInt8 := [180, 0, 202, 27, 46, 182, 0, 241, 182, 1, 10, 61, 28, 2, 160, 0, 8, 16, 253, 167, 0, 4, 28, 172]
abbrev dktX0_straight_2 : List UInt8 := dkwX0_straight_2 ++ []
def dkwX0_straight_1 : List UInt8 := [160, 0, 5, 2, 172, 42, 42, 180, 0, 68, 27, 3, 182, 0, 241, 42, 180, 0, 68, 27, 42, 180, 0, 68]
abbrev dktX0_straight_1 : List UInt8 := dkwX0_straight_1 ++ dktX0_straight_2
def dkwX0_straight_0 : List UInt8 := [42, 27, 133, 182, 0, 138, 154, 0, 6, 16, 254, 172, 42, 182, 0, 194, 180, 0, 202, 27, 46, 2]
abbrev dktX0_straight_0 : List UInt8 := dkwX0_straight_0 ++ dktX0_straight_1
theorem dksX0_straight_0 : cX0_straight.data.toList.drop 0 = dktX0_straight_0 := by decide +kernel
theorem dksX0_straight_1 : cX0_straight.data.toList.drop 22 = dktX0_straight_1 := dk_seg dksX0_straight_0 22 rfl rfl
theorem dksX0_straight_2 : cX0_straight.data.toList.drop 46 = dktX0_straight_2 := dk_seg dksX0_straight_1 24 rfl rfl
theorem dX0_straight_0 : decode cX0_straight 0 = .ok (.aload_n 0, 1) := dk_42 (dk_at dksX0_straight_0 0 rfl rfl)
theorem dX0_straight_1 : decode cX0_straight 1 = .ok (.iload_n 1, 1) := dk_27 (dk_at dksX0_straight_0 1 rfl rfl)
theorem dX0_straight_2 : decode cX0_straight 2 = .ok (.i2l, 1) := dk_133 (dk_at dksX0_straight_0 2 rfl rfl)
theorem dX0_straight_3 : decode cX0_straight 3 = .ok (.invokevirtual 138, 3) := dk_182 0 138 (dk_at dksX0_straight_0 3 rfl rfl)
theorem dX0_straight_6 : decode cX0_straight 6 = .ok (.ifCond .ne 6, 3) := dk_154 0 6 (dk_at dksX0_straight_0 6 rfl rfl)
theorem dX0_straight_9 : decode cX0_straight 9 = .ok (.bipush (-2), 2) := dk_16 254 (dk_at dksX0_straight_0 9 rfl rfl)
theorem dX0_straight_11 : decode cX0_straight 11 = .ok (.ireturn, 1) := dk_172 (dk_at dksX0_straight_0 11 rfl rfl)
theorem dX0_straight_12 : decode cX0_straight 12 = .ok (.aload_n 0, 1) := dk_42 (dk_at dksX0_straight_0 12 rfl rfl)
theorem dX0_straight_13 : decode cX0_straight 13 = .ok (.invokevirtual 194, 3) := dk_182 0 194 (dk_at dksX0_straight_0 13 rfl rfl)
theorem dX0_straight_16 : decode cX0_straight 16 = .ok (.getfield 202, 3) := dk_180 0 202 (dk_at dksX0_straight_0 16 rfl rfl)
theorem dX0_straight_19 : decode cX0_straight 19 = .ok (.iload_n 1, 1) := dk_27 (dk_at dksX0_straight_0 19 rfl rfl)
theorem dX0_straight_20 : decode cX0_straight 20 = .ok (.iaload, 1) := dk_46 (dk_at dksX0_straight_0 20 rfl rfl)
theorem dX0_straight_21 : decode cX0_straight 21 = .ok (.iconst (-1), 1) := dk_2 (dk_at dksX0_straight_0 21 rfl rfl)
theorem dX0_straight_22 : decode cX0_straight 22 = .ok (.if_icmp .ne 5, 3) := dk_160 0 5 (dk_at dksX0_straight_1 0 rfl rfl)
theorem dX0_straight_25 : decode cX0_straight 25 = .ok (.iconst (-1), 1) := dk_2 (dk_at dksX0_straight_1 3 rfl rfl)
theorem dX0_straight_26 : decode cX0_straight 26 = .ok (.ireturn, 1) := dk_172 (dk_at dksX0_straight_1 4 rfl rfl)
theorem dX0_straight_27 : decode cX0_straight 27 = .ok (.aload_n 0, 1) := dk_42 (dk_at dksX0_straight_1 5 rfl rfl)
theorem dX0_straight_28 : decode cX0_straight 28 = .ok (.aload_n 0, 1) := dk_42 (dk_at dksX0_straight_1 6 rfl rfl)
theorem dX0_straight_29 : decode cX0_straight 29 = .ok (.getfield 68, 3) := dk_180 0 68 (dk_at dksX0_straight_1 7 rfl rfl)
theorem dX0_straight_32 : decode cX0_straight 32 = .ok (.iload_n 1, 1) := dk_27 (dk_at dksX0_straight_1 10 rfl rfl)
theorem dX0_straight_33 : decode cX0_straight 33 = .ok (.iconst 0, 1) := dk_3 (dk_at dksX0_straight_1 11 rfl rfl)
theorem dX0_straight_34 : decode cX0_straight 34 = .ok (.invokevirtual 241, 3) := dk_182 0 241 (dk_at dksX0_straight_1 12 rfl rfl)
theorem dX0_straight_37 : decode cX0_straight 37 = .ok (.aload_n 0, 1) := dk_42 (dk_at dksX0_straight_1 15 rfl rfl)
theorem dX0_straight_38 : decode cX0_straight 38 = .ok (.getfield 68, 3) := dk_180 0 68 (dk_at dksX0_straight_1 16 rfl rfl)
theorem dX0_straight_41 : decode cX0_straight 41 = .ok (.iload_n 1, 1) := dk_27 (dk_at dksX0_straight_1 19 rfl rfl)
theorem dX0_straight_42 : decode cX0_straight 42 = .ok (.aload_n 0, 1) := dk_42 (dk_at dksX0_straight_1 20 rfl rfl)
theorem dX0_straight_43 : decode cX0_straight 43 = .ok (.getfield 68, 3) := dk_180 0 68 (dk_at dksX0_straight_1 21 rfl rfl)
theorem dX0_straight_46 : decode cX0_straight 46 = .ok (.getfield 202, 3) := dk_180 0 202 (dk_at dksX0_straight_2 0 rfl rfl)
theorem dX0_straight_49 : decode cX0_straight 49 = .ok (.iload_n 1, 1) := dk_27 (dk_at dksX0_straight_2 3 rfl rfl)
theorem dX0_straight_50 : decode cX0_straight 50 = .ok (.iaload, 1) := dk_46 (dk_at dksX0_straight_2 4 rfl rfl)
theorem dX0_straight_51 : decode cX0_straight 51 = .ok (.invokevirtual 241, 3) := dk_182 0 241 (dk_at dksX0_straight_2 5 rfl rfl)
theorem dX0_straight_54 : decode cX0_straight 54 = .ok (.invokevirtual 266, 3) := dk_182 1 10 (dk_at dksX0_straight_2 8 rfl rfl)
theorem dX0_straight_57 : decode cX0_straight 57 = .ok (.istore_n 2, 1) := dk_61 (dk_at dksX0_straight_2 11 rfl rfl)
theorem dX0_straight_58 : decode cX0_straight 58 = .ok (.iload_n 2, 1) := dk_28 (dk_at dksX0_straight_2 12 rfl rfl)
theorem dX0_straight_59 : decode cX0_straight 59 = .ok (.iconst (-1), 1) := dk_2 (dk_at dksX0_straight_2 13 rfl rfl)
theorem dX0_straight_60 : decode cX0_straight 60 = .ok (.if_icmp .ne 8, 3) := dk_160 0 8 (dk_at dksX0_straight_2 14 rfl rfl)
theorem dX0_straight_63 : decode cX0_straight 63 = .ok (.bipush (-3), 2) := dk_16 253 (dk_at dksX0_straight_2 17 rfl rfl)
theorem dX0_straight_65 : decode cX0_straight 65 = .ok (.goto 4, 3) := dk_167 0 4 (dk_at dksX0_straight_2 19 rfl rfl)
theorem dX0_straight_68 : decode cX0_straight 68 = .ok (.iload_n 2, 1) := dk_28 (dk_at dksX0_straight_2 22 rfl rfl)
theorem dX0_straight_69 : decode cX0_straight 69 = .ok (.ireturn, 1) := dk_172 (dk_at dksX0_straight_2 23 rfl rfl)
abbrev cX0_straightOf : ByteArray := prog_1_method_41_code
def yX0_straightOf : MethodName := ⟨RX0, "straightOf", "(II)I"⟩
def dkwX0_straightOf_1 : List UInt8 := [167, 0, 17, 42, 180, 0, 75, 27, 33, 182, 1, 3, 180, 1, 7, 28, 46, 172]
abbrev dktX0_straightOf_1 : List UInt8 := dkwX0_straightOf_1 ++ []
def dkwX0_straightOf_0 : List UInt8 := [42, 182, 0, 209, 66, 33, 27, 184, 0, 217, 154, 0, 11, 33, 28, 184, 0, 217, 153, 0, 7, 2]
abbrev dktX0_straightOf_0 : List UInt8 := dkwX0_straightOf_0 ++ dktX0_straightOf_1
theorem dksX0_straightOf_0 : cX0_straightOf.data.toList.drop 0 = dktX0_straightOf_0 := by decide +kernel
theorem dksX0_straightOf_1 : cX0_straightOf.data.toList.drop 22 = dktX0_straightOf_1 := dk_seg dksX0_straightOf_0 22 rfl rfl
theorem dX0_straightOf_0 : decode cX0_straightOf 0 = .ok (.aload_n 0, 1) := dk_42 (dk_at dksX0_straightOf_0 0 rfl rfl)
theorem dX0_straightOf_1 : decode cX0_straightOf 1 = .ok (.invokevirtual 209, 3) := dk_182 0 209 (dk_at dksX0_straightOf_0 1 rfl rfl)
theorem dX0_straightOf_4 : decode cX0_straightOf 4 = .ok (.lstore_n 3, 1) := dk_66 (dk_at dksX0_straightOf_0 4 rfl rfl)
theorem dX0_straightOf_5 : decode cX0_straightOf 5 = .ok (.lload_n 3, 1) := dk_33 (dk_at dksX0_straightOf_0 5 rfl rfl)
theorem dX0_straightOf_6 : decode cX0_straightOf 6 = .ok (.iload_n 1, 1) := dk_27 (dk_at dksX0_straightOf_0 6 rfl rfl)
theorem dX0_straightOf_7 : decode cX0_straightOf 7 = .ok (.invokestatic 217, 3) := dk_184 0 217 (dk_at dksX0_straightOf_0 7 rfl rfl)
theorem dX0_straightOf_10 : decode cX0_straightOf 10 = .ok (.ifCond .ne 11, 3) := dk_154 0 11 (dk_at dksX0_straightOf_0 10 rfl rfl)
theorem dX0_straightOf_13 : decode cX0_straightOf 13 = .ok (.lload_n 3, 1) := dk_33 (dk_at dksX0_straightOf_0 13 rfl rfl)
theorem dX0_straightOf_14 : decode cX0_straightOf 14 = .ok (.iload_n 2, 1) := dk_28 (dk_at dksX0_straightOf_0 14 rfl rfl)
theorem dX0_straightOf_15 : decode cX0_straightOf 15 = .ok (.invokestatic 217, 3) := dk_184 0 217 (dk_at dksX0_straightOf_0 15 rfl rfl)
theorem dX0_straightOf_18 : decode cX0_straightOf 18 = .ok (.ifCond .eq 7, 3) := dk_153 0 7 (dk_at dksX0_straightOf_0 18 rfl rfl)
theorem dX0_straightOf_21 : decode cX0_straightOf 21 = .ok (.iconst (-1), 1) := dk_2 (dk_at dksX0_straightOf_0 21 rfl rfl)
theorem dX0_straightOf_22 : decode cX0_straightOf 22 = .ok (.goto 17, 3) := dk_167 0 17 (dk_at dksX0_straightOf_1 0 rfl rfl)
theorem dX0_straightOf_25 : decode cX0_straightOf 25 = .ok (.aload_n 0, 1) := dk_42 (dk_at dksX0_straightOf_1 3 rfl rfl)
theorem dX0_straightOf_26 : decode cX0_straightOf 26 = .ok (.getfield 75, 3) := dk_180 0 75 (dk_at dksX0_straightOf_1 4 rfl rfl)
theorem dX0_straightOf_29 : decode cX0_straightOf 29 = .ok (.iload_n 1, 1) := dk_27 (dk_at dksX0_straightOf_1 7 rfl rfl)
theorem dX0_straightOf_30 : decode cX0_straightOf 30 = .ok (.lload_n 3, 1) := dk_33 (dk_at dksX0_straightOf_1 8 rfl rfl)
theorem dX0_straightOf_31 : decode cX0_straightOf 31 = .ok (.invokevirtual 259, 3) := dk_182 1 3 (dk_at dksX0_straightOf_1 9 rfl rfl)
theorem dX0_straightOf_34 : decode cX0_straightOf 34 = .ok (.getfield 263, 3) := dk_180 1 7 (dk_at dksX0_straightOf_1 12 rfl rfl)
theorem dX0_straightOf_37 : decode cX0_straightOf 37 = .ok (.iload_n 2, 1) := dk_28 (dk_at dksX0_straightOf_1 15 rfl rfl)
theorem dX0_straightOf_38 : decode cX0_straightOf 38 = .ok (.iaload, 1) := dk_46 (dk_at dksX0_straightOf_1 16 rfl rfl)
theorem dX0_straightOf_39 : decode cX0_straightOf 39 = .ok (.ireturn, 1) := dk_172 (dk_at dksX0_straightOf_1 17 rfl rfl)
abbrev cX0_beeline : ByteArray := prog_1_method_43_code
def yX0_beeline : MethodName := ⟨RX0, "beeline", "(II)I"⟩
def dkwX0_beeline_1 : List UInt8 := [28, 133, 184, 0, 213, 182, 1, 10, 167, 0, 5, 16, 254, 172]
abbrev dktX0_beeline_1 : List UInt8 := dkwX0_beeline_1 ++ []
def dkwX0_beeline_0 : List UInt8 := [42, 27, 133, 182, 0, 206, 153, 0, 29, 42, 28, 133, 182, 0, 206, 153, 0, 20, 42, 27, 133, 184, 0, 213]
abbrev dktX0_beeline_0 : List UInt8 := dkwX0_beeline_0 ++ dktX0_beeline_1
theorem dksX0_beeline_0 : cX0_beeline.data.toList.drop 0 = dktX0_beeline_0 := by decide +kernel
theorem dksX0_beeline_1 : cX0_beeline.data.toList.drop 24 = dktX0_beeline_1 := dk_seg dksX0_beeline_0 24 rfl rfl
theorem dX0_beeline_0 : decode cX0_beeline 0 = .ok (.aload_n 0, 1) := dk_42 (dk_at dksX0_beeline_0 0 rfl rfl)
theorem dX0_beeline_1 : decode cX0_beeline 1 = .ok (.iload_n 1, 1) := dk_27 (dk_at dksX0_beeline_0 1 rfl rfl)
theorem dX0_beeline_2 : decode cX0_beeline 2 = .ok (.i2l, 1) := dk_133 (dk_at dksX0_beeline_0 2 rfl rfl)
theorem dX0_beeline_3 : decode cX0_beeline 3 = .ok (.invokevirtual 206, 3) := dk_182 0 206 (dk_at dksX0_beeline_0 3 rfl rfl)
theorem dX0_beeline_6 : decode cX0_beeline 6 = .ok (.ifCond .eq 29, 3) := dk_153 0 29 (dk_at dksX0_beeline_0 6 rfl rfl)
theorem dX0_beeline_9 : decode cX0_beeline 9 = .ok (.aload_n 0, 1) := dk_42 (dk_at dksX0_beeline_0 9 rfl rfl)
theorem dX0_beeline_10 : decode cX0_beeline 10 = .ok (.iload_n 2, 1) := dk_28 (dk_at dksX0_beeline_0 10 rfl rfl)
theorem dX0_beeline_11 : decode cX0_beeline 11 = .ok (.i2l, 1) := dk_133 (dk_at dksX0_beeline_0 11 rfl rfl)
theorem dX0_beeline_12 : decode cX0_beeline 12 = .ok (.invokevirtual 206, 3) := dk_182 0 206 (dk_at dksX0_beeline_0 12 rfl rfl)
theorem dX0_beeline_15 : decode cX0_beeline 15 = .ok (.ifCond .eq 20, 3) := dk_153 0 20 (dk_at dksX0_beeline_0 15 rfl rfl)
theorem dX0_beeline_18 : decode cX0_beeline 18 = .ok (.aload_n 0, 1) := dk_42 (dk_at dksX0_beeline_0 18 rfl rfl)
theorem dX0_beeline_19 : decode cX0_beeline 19 = .ok (.iload_n 1, 1) := dk_27 (dk_at dksX0_beeline_0 19 rfl rfl)
theorem dX0_beeline_20 : decode cX0_beeline 20 = .ok (.i2l, 1) := dk_133 (dk_at dksX0_beeline_0 20 rfl rfl)
theorem dX0_beeline_21 : decode cX0_beeline 21 = .ok (.invokestatic 213, 3) := dk_184 0 213 (dk_at dksX0_beeline_0 21 rfl rfl)
theorem dX0_beeline_24 : decode cX0_beeline 24 = .ok (.iload_n 2, 1) := dk_28 (dk_at dksX0_beeline_1 0 rfl rfl)
theorem dX0_beeline_25 : decode cX0_beeline 25 = .ok (.i2l, 1) := dk_133 (dk_at dksX0_beeline_1 1 rfl rfl)
theorem dX0_beeline_26 : decode cX0_beeline 26 = .ok (.invokestatic 213, 3) := dk_184 0 213 (dk_at dksX0_beeline_1 2 rfl rfl)
theorem dX0_beeline_29 : decode cX0_beeline 29 = .ok (.invokevirtual 266, 3) := dk_182 1 10 (dk_at dksX0_beeline_1 5 rfl rfl)
theorem dX0_beeline_32 : decode cX0_beeline 32 = .ok (.goto 5, 3) := dk_167 0 5 (dk_at dksX0_beeline_1 8 rfl rfl)
theorem dX0_beeline_35 : decode cX0_beeline 35 = .ok (.bipush (-2), 2) := dk_16 254 (dk_at dksX0_beeline_1 11 rfl rfl)
theorem dX0_beeline_37 : decode cX0_beeline 37 = .ok (.ireturn, 1) := dk_172 (dk_at dksX0_beeline_1 13 rfl rfl)
abbrev cX0_road : ByteArray := prog_1_method_45_code
def yX0_road : MethodName := ⟨RX0, "road", "(II)I"⟩
def dkwX0_road_1 : List UInt8 := [10, 127, 136, 167, 0, 5, 16, 254, 172]
abbrev dktX0_road_1 : List UInt8 := dkwX0_road_1 ++ []
def dkwX0_road_0 : List UInt8 := [42, 27, 28, 182, 1, 16, 153, 0, 24, 42, 182, 0, 194, 180, 1, 19, 28, 47, 27, 133, 184, 0, 213, 123]
abbrev dktX0_road_0 : List UInt8 := dkwX0_road_0 ++ dktX0_road_1
theorem dksX0_road_0 : cX0_road.data.toList.drop 0 = dktX0_road_0 := by decide +kernel
theorem dksX0_road_1 : cX0_road.data.toList.drop 24 = dktX0_road_1 := dk_seg dksX0_road_0 24 rfl rfl
theorem dX0_road_0 : decode cX0_road 0 = .ok (.aload_n 0, 1) := dk_42 (dk_at dksX0_road_0 0 rfl rfl)
theorem dX0_road_1 : decode cX0_road 1 = .ok (.iload_n 1, 1) := dk_27 (dk_at dksX0_road_0 1 rfl rfl)
theorem dX0_road_2 : decode cX0_road 2 = .ok (.iload_n 2, 1) := dk_28 (dk_at dksX0_road_0 2 rfl rfl)
theorem dX0_road_3 : decode cX0_road 3 = .ok (.invokevirtual 272, 3) := dk_182 1 16 (dk_at dksX0_road_0 3 rfl rfl)
theorem dX0_road_6 : decode cX0_road 6 = .ok (.ifCond .eq 24, 3) := dk_153 0 24 (dk_at dksX0_road_0 6 rfl rfl)
theorem dX0_road_9 : decode cX0_road 9 = .ok (.aload_n 0, 1) := dk_42 (dk_at dksX0_road_0 9 rfl rfl)
theorem dX0_road_10 : decode cX0_road 10 = .ok (.invokevirtual 194, 3) := dk_182 0 194 (dk_at dksX0_road_0 10 rfl rfl)
theorem dX0_road_13 : decode cX0_road 13 = .ok (.getfield 275, 3) := dk_180 1 19 (dk_at dksX0_road_0 13 rfl rfl)
theorem dX0_road_16 : decode cX0_road 16 = .ok (.iload_n 2, 1) := dk_28 (dk_at dksX0_road_0 16 rfl rfl)
theorem dX0_road_17 : decode cX0_road 17 = .ok (.laload, 1) := dk_47 (dk_at dksX0_road_0 17 rfl rfl)
theorem dX0_road_18 : decode cX0_road 18 = .ok (.iload_n 1, 1) := dk_27 (dk_at dksX0_road_0 18 rfl rfl)
theorem dX0_road_19 : decode cX0_road 19 = .ok (.i2l, 1) := dk_133 (dk_at dksX0_road_0 19 rfl rfl)
theorem dX0_road_20 : decode cX0_road 20 = .ok (.invokestatic 213, 3) := dk_184 0 213 (dk_at dksX0_road_0 20 rfl rfl)
theorem dX0_road_23 : decode cX0_road 23 = .ok (.lshr, 1) := dk_123 (dk_at dksX0_road_0 23 rfl rfl)
theorem dX0_road_24 : decode cX0_road 24 = .ok (.lconst 1, 1) := dk_10 (dk_at dksX0_road_1 0 rfl rfl)
theorem dX0_road_25 : decode cX0_road 25 = .ok (.land, 1) := dk_127 (dk_at dksX0_road_1 1 rfl rfl)
theorem dX0_road_26 : decode cX0_road 26 = .ok (.l2i, 1) := dk_136 (dk_at dksX0_road_1 2 rfl rfl)
theorem dX0_road_27 : decode cX0_road 27 = .ok (.goto 5, 3) := dk_167 0 5 (dk_at dksX0_road_1 3 rfl rfl)
theorem dX0_road_30 : decode cX0_road 30 = .ok (.bipush (-2), 2) := dk_16 254 (dk_at dksX0_road_1 6 rfl rfl)
theorem dX0_road_32 : decode cX0_road 32 = .ok (.ireturn, 1) := dk_172 (dk_at dksX0_road_1 8 rfl rfl)
abbrev cX0_isThen : ByteArray := prog_1_method_44_code
def yX0_isThen : MethodName := ⟨RX0, "isThen", "(II)Z"⟩
def dkwX0_isThen_0 : List UInt8 := [42, 27, 133, 182, 0, 206, 153, 0, 15, 42, 28, 182, 1, 13, 153, 0, 7, 4, 167, 0, 4, 3, 172]
abbrev dktX0_isThen_0 : List UInt8 := dkwX0_isThen_0 ++ []
theorem dksX0_isThen_0 : cX0_isThen.data.toList.drop 0 = dktX0_isThen_0 := by decide +kernel
theorem dX0_isThen_0 : decode cX0_isThen 0 = .ok (.aload_n 0, 1) := dk_42 (dk_at dksX0_isThen_0 0 rfl rfl)
theorem dX0_isThen_1 : decode cX0_isThen 1 = .ok (.iload_n 1, 1) := dk_27 (dk_at dksX0_isThen_0 1 rfl rfl)
theorem dX0_isThen_2 : decode cX0_isThen 2 = .ok (.i2l, 1) := dk_133 (dk_at dksX0_isThen_0 2 rfl rfl)
theorem dX0_isThen_3 : decode cX0_isThen 3 = .ok (.invokevirtual 206, 3) := dk_182 0 206 (dk_at dksX0_isThen_0 3 rfl rfl)
theorem dX0_isThen_6 : decode cX0_isThen 6 = .ok (.ifCond .eq 15, 3) := dk_153 0 15 (dk_at dksX0_isThen_0 6 rfl rfl)
theorem dX0_isThen_9 : decode cX0_isThen 9 = .ok (.aload_n 0, 1) := dk_42 (dk_at dksX0_isThen_0 9 rfl rfl)
theorem dX0_isThen_10 : decode cX0_isThen 10 = .ok (.iload_n 2, 1) := dk_28 (dk_at dksX0_isThen_0 10 rfl rfl)
theorem dX0_isThen_11 : decode cX0_isThen 11 = .ok (.invokevirtual 269, 3) := dk_182 1 13 (dk_at dksX0_isThen_0 11 rfl rfl)
theorem dX0_isThen_14 : decode cX0_isThen 14 = .ok (.ifCond .eq 7, 3) := dk_153 0 7 (dk_at dksX0_isThen_0 14 rfl rfl)
theorem dX0_isThen_17 : decode cX0_isThen 17 = .ok (.iconst 1, 1) := dk_4 (dk_at dksX0_isThen_0 17 rfl rfl)
theorem dX0_isThen_18 : decode cX0_isThen 18 = .ok (.goto 4, 3) := dk_167 0 4 (dk_at dksX0_isThen_0 18 rfl rfl)
theorem dX0_isThen_21 : decode cX0_isThen 21 = .ok (.iconst 0, 1) := dk_3 (dk_at dksX0_isThen_0 21 rfl rfl)
theorem dX0_isThen_22 : decode cX0_isThen 22 = .ok (.ireturn, 1) := dk_172 (dk_at dksX0_isThen_0 22 rfl rfl)
abbrev cX0_isYear : ByteArray := prog_1_method_19_code
def yX0_isYear : MethodName := ⟨RX0, "isYear", "(I)Z"⟩
def dkwX0_isYear_1 : List UInt8 := [153, 0, 7, 4, 167, 0, 4, 3, 172]
abbrev dktX0_isYear_1 : List UInt8 := dkwX0_isYear_1 ++ []
def dkwX0_isYear_0 : List UInt8 := [42, 180, 0, 47, 182, 0, 98, 153, 0, 24, 27, 133, 9, 42, 180, 0, 47, 180, 0, 142, 133, 184, 0, 11]
abbrev dktX0_isYear_0 : List UInt8 := dkwX0_isYear_0 ++ dktX0_isYear_1
theorem dksX0_isYear_0 : cX0_isYear.data.toList.drop 0 = dktX0_isYear_0 := by decide +kernel
theorem dksX0_isYear_1 : cX0_isYear.data.toList.drop 24 = dktX0_isYear_1 := dk_seg dksX0_isYear_0 24 rfl rfl
theorem dX0_isYear_0 : decode cX0_isYear 0 = .ok (.aload_n 0, 1) := dk_42 (dk_at dksX0_isYear_0 0 rfl rfl)
theorem dX0_isYear_1 : decode cX0_isYear 1 = .ok (.getfield 47, 3) := dk_180 0 47 (dk_at dksX0_isYear_0 1 rfl rfl)
theorem dX0_isYear_4 : decode cX0_isYear 4 = .ok (.invokevirtual 98, 3) := dk_182 0 98 (dk_at dksX0_isYear_0 4 rfl rfl)
theorem dX0_isYear_7 : decode cX0_isYear 7 = .ok (.ifCond .eq 24, 3) := dk_153 0 24 (dk_at dksX0_isYear_0 7 rfl rfl)
theorem dX0_isYear_10 : decode cX0_isYear 10 = .ok (.iload_n 1, 1) := dk_27 (dk_at dksX0_isYear_0 10 rfl rfl)
theorem dX0_isYear_11 : decode cX0_isYear 11 = .ok (.i2l, 1) := dk_133 (dk_at dksX0_isYear_0 11 rfl rfl)
theorem dX0_isYear_12 : decode cX0_isYear 12 = .ok (.lconst 0, 1) := dk_9 (dk_at dksX0_isYear_0 12 rfl rfl)
theorem dX0_isYear_13 : decode cX0_isYear 13 = .ok (.aload_n 0, 1) := dk_42 (dk_at dksX0_isYear_0 13 rfl rfl)
theorem dX0_isYear_14 : decode cX0_isYear 14 = .ok (.getfield 47, 3) := dk_180 0 47 (dk_at dksX0_isYear_0 14 rfl rfl)
theorem dX0_isYear_17 : decode cX0_isYear 17 = .ok (.getfield 142, 3) := dk_180 0 142 (dk_at dksX0_isYear_0 17 rfl rfl)
theorem dX0_isYear_20 : decode cX0_isYear 20 = .ok (.i2l, 1) := dk_133 (dk_at dksX0_isYear_0 20 rfl rfl)
theorem dX0_isYear_21 : decode cX0_isYear 21 = .ok (.invokestatic 11, 3) := dk_184 0 11 (dk_at dksX0_isYear_0 21 rfl rfl)
theorem dX0_isYear_24 : decode cX0_isYear 24 = .ok (.ifCond .eq 7, 3) := dk_153 0 7 (dk_at dksX0_isYear_1 0 rfl rfl)
theorem dX0_isYear_27 : decode cX0_isYear 27 = .ok (.iconst 1, 1) := dk_4 (dk_at dksX0_isYear_1 3 rfl rfl)
theorem dX0_isYear_28 : decode cX0_isYear 28 = .ok (.goto 4, 3) := dk_167 0 4 (dk_at dksX0_isYear_1 4 rfl rfl)
theorem dX0_isYear_31 : decode cX0_isYear 31 = .ok (.iconst 0, 1) := dk_3 (dk_at dksX0_isYear_1 7 rfl rfl)
theorem dX0_isYear_32 : decode cX0_isYear 32 = .ok (.ireturn, 1) := dk_172 (dk_at dksX0_isYear_1 8 rfl rfl)
abbrev cX0_roads : ByteArray := prog_1_method_46_code
def yX0_roads : MethodName := ⟨RX0, "roads", "(I)I"⟩
def dkwX0_roads_1 : List UInt8 := [16, 254, 172]
abbrev dktX0_roads_1 : List UInt8 := dkwX0_roads_1 ++ []
def dkwX0_roads_0 : List UInt8 := [42, 27, 182, 1, 13, 153, 0, 18, 42, 182, 0, 194, 180, 1, 19, 27, 47, 184, 0, 252, 167, 0, 5]
abbrev dktX0_roads_0 : List UInt8 := dkwX0_roads_0 ++ dktX0_roads_1
theorem dksX0_roads_0 : cX0_roads.data.toList.drop 0 = dktX0_roads_0 := by decide +kernel
theorem dksX0_roads_1 : cX0_roads.data.toList.drop 23 = dktX0_roads_1 := dk_seg dksX0_roads_0 23 rfl rfl
theorem dX0_roads_0 : decode cX0_roads 0 = .ok (.aload_n 0, 1) := dk_42 (dk_at dksX0_roads_0 0 rfl rfl)
theorem dX0_roads_1 : decode cX0_roads 1 = .ok (.iload_n 1, 1) := dk_27 (dk_at dksX0_roads_0 1 rfl rfl)
theorem dX0_roads_2 : decode cX0_roads 2 = .ok (.invokevirtual 269, 3) := dk_182 1 13 (dk_at dksX0_roads_0 2 rfl rfl)
theorem dX0_roads_5 : decode cX0_roads 5 = .ok (.ifCond .eq 18, 3) := dk_153 0 18 (dk_at dksX0_roads_0 5 rfl rfl)
theorem dX0_roads_8 : decode cX0_roads 8 = .ok (.aload_n 0, 1) := dk_42 (dk_at dksX0_roads_0 8 rfl rfl)
theorem dX0_roads_9 : decode cX0_roads 9 = .ok (.invokevirtual 194, 3) := dk_182 0 194 (dk_at dksX0_roads_0 9 rfl rfl)
theorem dX0_roads_12 : decode cX0_roads 12 = .ok (.getfield 275, 3) := dk_180 1 19 (dk_at dksX0_roads_0 12 rfl rfl)
theorem dX0_roads_15 : decode cX0_roads 15 = .ok (.iload_n 1, 1) := dk_27 (dk_at dksX0_roads_0 15 rfl rfl)
theorem dX0_roads_16 : decode cX0_roads 16 = .ok (.laload, 1) := dk_47 (dk_at dksX0_roads_0 16 rfl rfl)
theorem dX0_roads_17 : decode cX0_roads 17 = .ok (.invokestatic 252, 3) := dk_184 0 252 (dk_at dksX0_roads_0 17 rfl rfl)
theorem dX0_roads_20 : decode cX0_roads 20 = .ok (.goto 5, 3) := dk_167 0 5 (dk_at dksX0_roads_0 20 rfl rfl)
theorem dX0_roads_23 : decode cX0_roads 23 = .ok (.bipush (-2), 2) := dk_16 254 (dk_at dksX0_roads_1 0 rfl rfl)
theorem dX0_roads_25 : decode cX0_roads 25 = .ok (.ireturn, 1) := dk_172 (dk_at dksX0_roads_1 2 rfl rfl)
abbrev cX0_pegs : ByteArray := prog_1_method_47_code
def yX0_pegs : MethodName := ⟨RX0, "pegs", "(I)I"⟩
def dkwX0_pegs_0 : List UInt8 := [42, 27, 182, 1, 13, 153, 0, 14, 42, 182, 0, 194, 27, 182, 1, 22, 167, 0, 5, 16, 254, 172]
abbrev dktX0_pegs_0 : List UInt8 := dkwX0_pegs_0 ++ []
theorem dksX0_pegs_0 : cX0_pegs.data.toList.drop 0 = dktX0_pegs_0 := by decide +kernel
theorem dX0_pegs_0 : decode cX0_pegs 0 = .ok (.aload_n 0, 1) := dk_42 (dk_at dksX0_pegs_0 0 rfl rfl)
theorem dX0_pegs_1 : decode cX0_pegs 1 = .ok (.iload_n 1, 1) := dk_27 (dk_at dksX0_pegs_0 1 rfl rfl)
theorem dX0_pegs_2 : decode cX0_pegs 2 = .ok (.invokevirtual 269, 3) := dk_182 1 13 (dk_at dksX0_pegs_0 2 rfl rfl)
theorem dX0_pegs_5 : decode cX0_pegs 5 = .ok (.ifCond .eq 14, 3) := dk_153 0 14 (dk_at dksX0_pegs_0 5 rfl rfl)
theorem dX0_pegs_8 : decode cX0_pegs 8 = .ok (.aload_n 0, 1) := dk_42 (dk_at dksX0_pegs_0 8 rfl rfl)
theorem dX0_pegs_9 : decode cX0_pegs 9 = .ok (.invokevirtual 194, 3) := dk_182 0 194 (dk_at dksX0_pegs_0 9 rfl rfl)
theorem dX0_pegs_12 : decode cX0_pegs 12 = .ok (.iload_n 1, 1) := dk_27 (dk_at dksX0_pegs_0 12 rfl rfl)
theorem dX0_pegs_13 : decode cX0_pegs 13 = .ok (.invokevirtual 278, 3) := dk_182 1 22 (dk_at dksX0_pegs_0 13 rfl rfl)
theorem dX0_pegs_16 : decode cX0_pegs 16 = .ok (.goto 5, 3) := dk_167 0 5 (dk_at dksX0_pegs_0 16 rfl rfl)
theorem dX0_pegs_19 : decode cX0_pegs 19 = .ok (.bipush (-2), 2) := dk_16 254 (dk_at dksX0_pegs_0 19 rfl rfl)
theorem dX0_pegs_21 : decode cX0_pegs 21 = .ok (.ireturn, 1) := dk_172 (dk_at dksX0_pegs_0 21 rfl rfl)
abbrev cX0_joins : ByteArray := prog_1_method_49_code
def yX0_joins : MethodName := ⟨RX0, "joins", "(II)I"⟩
def dkwX0_joins_1 : List UInt8 := [182, 1, 29, 172]
abbrev dktX0_joins_1 : List UInt8 := dkwX0_joins_1 ++ []
def dkwX0_joins_0 : List UInt8 := [42, 27, 28, 182, 1, 16, 154, 0, 6, 16, 254, 172, 42, 182, 0, 194, 87, 42, 27, 133, 184, 0, 213, 28]
abbrev dktX0_joins_0 : List UInt8 := dkwX0_joins_0 ++ dktX0_joins_1
theorem dksX0_joins_0 : cX0_joins.data.toList.drop 0 = dktX0_joins_0 := by decide +kernel
theorem dksX0_joins_1 : cX0_joins.data.toList.drop 24 = dktX0_joins_1 := dk_seg dksX0_joins_0 24 rfl rfl
theorem dX0_joins_0 : decode cX0_joins 0 = .ok (.aload_n 0, 1) := dk_42 (dk_at dksX0_joins_0 0 rfl rfl)
theorem dX0_joins_1 : decode cX0_joins 1 = .ok (.iload_n 1, 1) := dk_27 (dk_at dksX0_joins_0 1 rfl rfl)
theorem dX0_joins_2 : decode cX0_joins 2 = .ok (.iload_n 2, 1) := dk_28 (dk_at dksX0_joins_0 2 rfl rfl)
theorem dX0_joins_3 : decode cX0_joins 3 = .ok (.invokevirtual 272, 3) := dk_182 1 16 (dk_at dksX0_joins_0 3 rfl rfl)
theorem dX0_joins_6 : decode cX0_joins 6 = .ok (.ifCond .ne 6, 3) := dk_154 0 6 (dk_at dksX0_joins_0 6 rfl rfl)
theorem dX0_joins_9 : decode cX0_joins 9 = .ok (.bipush (-2), 2) := dk_16 254 (dk_at dksX0_joins_0 9 rfl rfl)
theorem dX0_joins_11 : decode cX0_joins 11 = .ok (.ireturn, 1) := dk_172 (dk_at dksX0_joins_0 11 rfl rfl)
theorem dX0_joins_12 : decode cX0_joins 12 = .ok (.aload_n 0, 1) := dk_42 (dk_at dksX0_joins_0 12 rfl rfl)
theorem dX0_joins_13 : decode cX0_joins 13 = .ok (.invokevirtual 194, 3) := dk_182 0 194 (dk_at dksX0_joins_0 13 rfl rfl)
theorem dX0_joins_16 : decode cX0_joins 16 = .ok (.pop, 1) := dk_87 (dk_at dksX0_joins_0 16 rfl rfl)
theorem dX0_joins_17 : decode cX0_joins 17 = .ok (.aload_n 0, 1) := dk_42 (dk_at dksX0_joins_0 17 rfl rfl)
theorem dX0_joins_18 : decode cX0_joins 18 = .ok (.iload_n 1, 1) := dk_27 (dk_at dksX0_joins_0 18 rfl rfl)
theorem dX0_joins_19 : decode cX0_joins 19 = .ok (.i2l, 1) := dk_133 (dk_at dksX0_joins_0 19 rfl rfl)
theorem dX0_joins_20 : decode cX0_joins 20 = .ok (.invokestatic 213, 3) := dk_184 0 213 (dk_at dksX0_joins_0 20 rfl rfl)
theorem dX0_joins_23 : decode cX0_joins 23 = .ok (.iload_n 2, 1) := dk_28 (dk_at dksX0_joins_0 23 rfl rfl)
theorem dX0_joins_24 : decode cX0_joins 24 = .ok (.invokevirtual 285, 3) := dk_182 1 29 (dk_at dksX0_joins_1 0 rfl rfl)
theorem dX0_joins_27 : decode cX0_joins 27 = .ok (.ireturn, 1) := dk_172 (dk_at dksX0_joins_1 3 rfl rfl)
abbrev cX0_joinsOf : ByteArray := prog_1_method_48_code
def yX0_joinsOf : MethodName := ⟨RX0, "joinsOf", "(II)I"⟩
def dkwX0_joinsOf_1 : List UInt8 := [153, 0, 10, 4, 21, 4, 120, 167, 0, 4, 3, 128, 62, 132, 4, 1, 167, 255, 222, 29, 172]
abbrev dktX0_joinsOf_1 : List UInt8 := dkwX0_joinsOf_1 ++ []
def dkwX0_joinsOf_0 : List UInt8 := [3, 62, 3, 54, 4, 21, 4, 7, 162, 0, 34, 29, 42, 180, 0, 68, 27, 21, 4, 28, 182, 1, 25]
abbrev dktX0_joinsOf_0 : List UInt8 := dkwX0_joinsOf_0 ++ dktX0_joinsOf_1
theorem dksX0_joinsOf_0 : cX0_joinsOf.data.toList.drop 0 = dktX0_joinsOf_0 := by decide +kernel
theorem dksX0_joinsOf_1 : cX0_joinsOf.data.toList.drop 23 = dktX0_joinsOf_1 := dk_seg dksX0_joinsOf_0 23 rfl rfl
theorem dX0_joinsOf_0 : decode cX0_joinsOf 0 = .ok (.iconst 0, 1) := dk_3 (dk_at dksX0_joinsOf_0 0 rfl rfl)
theorem dX0_joinsOf_1 : decode cX0_joinsOf 1 = .ok (.istore_n 3, 1) := dk_62 (dk_at dksX0_joinsOf_0 1 rfl rfl)
theorem dX0_joinsOf_2 : decode cX0_joinsOf 2 = .ok (.iconst 0, 1) := dk_3 (dk_at dksX0_joinsOf_0 2 rfl rfl)
theorem dX0_joinsOf_3 : decode cX0_joinsOf 3 = .ok (.istore 4, 2) := dk_54 4 (dk_at dksX0_joinsOf_0 3 rfl rfl)
theorem dX0_joinsOf_5 : decode cX0_joinsOf 5 = .ok (.iload 4, 2) := dk_21 4 (dk_at dksX0_joinsOf_0 5 rfl rfl)
theorem dX0_joinsOf_7 : decode cX0_joinsOf 7 = .ok (.iconst 4, 1) := dk_7 (dk_at dksX0_joinsOf_0 7 rfl rfl)
theorem dX0_joinsOf_8 : decode cX0_joinsOf 8 = .ok (.if_icmp .ge 34, 3) := dk_162 0 34 (dk_at dksX0_joinsOf_0 8 rfl rfl)
theorem dX0_joinsOf_11 : decode cX0_joinsOf 11 = .ok (.iload_n 3, 1) := dk_29 (dk_at dksX0_joinsOf_0 11 rfl rfl)
theorem dX0_joinsOf_12 : decode cX0_joinsOf 12 = .ok (.aload_n 0, 1) := dk_42 (dk_at dksX0_joinsOf_0 12 rfl rfl)
theorem dX0_joinsOf_13 : decode cX0_joinsOf 13 = .ok (.getfield 68, 3) := dk_180 0 68 (dk_at dksX0_joinsOf_0 13 rfl rfl)
theorem dX0_joinsOf_16 : decode cX0_joinsOf 16 = .ok (.iload_n 1, 1) := dk_27 (dk_at dksX0_joinsOf_0 16 rfl rfl)
theorem dX0_joinsOf_17 : decode cX0_joinsOf 17 = .ok (.iload 4, 2) := dk_21 4 (dk_at dksX0_joinsOf_0 17 rfl rfl)
theorem dX0_joinsOf_19 : decode cX0_joinsOf 19 = .ok (.iload_n 2, 1) := dk_28 (dk_at dksX0_joinsOf_0 19 rfl rfl)
theorem dX0_joinsOf_20 : decode cX0_joinsOf 20 = .ok (.invokevirtual 281, 3) := dk_182 1 25 (dk_at dksX0_joinsOf_0 20 rfl rfl)
theorem dX0_joinsOf_23 : decode cX0_joinsOf 23 = .ok (.ifCond .eq 10, 3) := dk_153 0 10 (dk_at dksX0_joinsOf_1 0 rfl rfl)
theorem dX0_joinsOf_26 : decode cX0_joinsOf 26 = .ok (.iconst 1, 1) := dk_4 (dk_at dksX0_joinsOf_1 3 rfl rfl)
theorem dX0_joinsOf_27 : decode cX0_joinsOf 27 = .ok (.iload 4, 2) := dk_21 4 (dk_at dksX0_joinsOf_1 4 rfl rfl)
theorem dX0_joinsOf_29 : decode cX0_joinsOf 29 = .ok (.ishl, 1) := dk_120 (dk_at dksX0_joinsOf_1 6 rfl rfl)
theorem dX0_joinsOf_30 : decode cX0_joinsOf 30 = .ok (.goto 4, 3) := dk_167 0 4 (dk_at dksX0_joinsOf_1 7 rfl rfl)
theorem dX0_joinsOf_33 : decode cX0_joinsOf 33 = .ok (.iconst 0, 1) := dk_3 (dk_at dksX0_joinsOf_1 10 rfl rfl)
theorem dX0_joinsOf_34 : decode cX0_joinsOf 34 = .ok (.ior, 1) := dk_128 (dk_at dksX0_joinsOf_1 11 rfl rfl)
theorem dX0_joinsOf_35 : decode cX0_joinsOf 35 = .ok (.istore_n 3, 1) := dk_62 (dk_at dksX0_joinsOf_1 12 rfl rfl)
theorem dX0_joinsOf_36 : decode cX0_joinsOf 36 = .ok (.iinc 4 1, 3) := dk_132 4 1 (dk_at dksX0_joinsOf_1 13 rfl rfl)
theorem dX0_joinsOf_39 : decode cX0_joinsOf 39 = .ok (.goto (-34), 3) := dk_167 255 222 (dk_at dksX0_joinsOf_1 16 rfl rfl)
theorem dX0_joinsOf_42 : decode cX0_joinsOf 42 = .ok (.iload_n 3, 1) := dk_29 (dk_at dksX0_joinsOf_1 19 rfl rfl)
theorem dX0_joinsOf_43 : decode cX0_joinsOf 43 = .ok (.ireturn, 1) := dk_172 (dk_at dksX0_joinsOf_1 20 rfl rfl)
abbrev cX0_corners : ByteArray := prog_1_method_50_code
def yX0_corners : MethodName := ⟨RX0, "corners", "(II)I"⟩
def dkwX0_corners_3 : List UInt8 := [4, 167, 0, 4, 3, 96, 62, 132, 4, 1, 167, 255, 207, 29, 172]
abbrev dktX0_corners_3 : List UInt8 := dkwX0_corners_3 ++ []
def dkwX0_corners_2 : List UInt8 := [28, 47, 21, 4, 184, 0, 217, 153, 0, 21, 42, 21, 4, 28, 182, 1, 29, 184, 1, 32, 27, 160, 0, 7]
abbrev dktX0_corners_2 : List UInt8 := dkwX0_corners_2 ++ dktX0_corners_3
def dkwX0_corners_1 : List UInt8 := [182, 0, 194, 87, 3, 62, 3, 54, 4, 21, 4, 16, 64, 162, 0, 48, 29, 42, 180, 0, 68, 180, 1, 19]
abbrev dktX0_corners_1 : List UInt8 := dkwX0_corners_1 ++ dktX0_corners_2
def dkwX0_corners_0 : List UInt8 := [27, 133, 9, 20, 0, 221, 184, 0, 11, 153, 0, 11, 42, 28, 182, 1, 13, 154, 0, 6, 16, 254, 172, 42]
abbrev dktX0_corners_0 : List UInt8 := dkwX0_corners_0 ++ dktX0_corners_1
theorem dksX0_corners_0 : cX0_corners.data.toList.drop 0 = dktX0_corners_0 := by decide +kernel
theorem dksX0_corners_1 : cX0_corners.data.toList.drop 24 = dktX0_corners_1 := dk_seg dksX0_corners_0 24 rfl rfl
theorem dksX0_corners_2 : cX0_corners.data.toList.drop 48 = dktX0_corners_2 := dk_seg dksX0_corners_1 24 rfl rfl
theorem dksX0_corners_3 : cX0_corners.data.toList.drop 72 = dktX0_corners_3 := dk_seg dksX0_corners_2 24 rfl rfl
theorem dX0_corners_0 : decode cX0_corners 0 = .ok (.iload_n 1, 1) := dk_27 (dk_at dksX0_corners_0 0 rfl rfl)
theorem dX0_corners_1 : decode cX0_corners 1 = .ok (.i2l, 1) := dk_133 (dk_at dksX0_corners_0 1 rfl rfl)
theorem dX0_corners_2 : decode cX0_corners 2 = .ok (.lconst 0, 1) := dk_9 (dk_at dksX0_corners_0 2 rfl rfl)
theorem dX0_corners_3 : decode cX0_corners 3 = .ok (.ldc2_w 221, 3) := dk_20 0 221 (dk_at dksX0_corners_0 3 rfl rfl)
theorem dX0_corners_6 : decode cX0_corners 6 = .ok (.invokestatic 11, 3) := dk_184 0 11 (dk_at dksX0_corners_0 6 rfl rfl)
theorem dX0_corners_9 : decode cX0_corners 9 = .ok (.ifCond .eq 11, 3) := dk_153 0 11 (dk_at dksX0_corners_0 9 rfl rfl)
theorem dX0_corners_12 : decode cX0_corners 12 = .ok (.aload_n 0, 1) := dk_42 (dk_at dksX0_corners_0 12 rfl rfl)
theorem dX0_corners_13 : decode cX0_corners 13 = .ok (.iload_n 2, 1) := dk_28 (dk_at dksX0_corners_0 13 rfl rfl)
theorem dX0_corners_14 : decode cX0_corners 14 = .ok (.invokevirtual 269, 3) := dk_182 1 13 (dk_at dksX0_corners_0 14 rfl rfl)
theorem dX0_corners_17 : decode cX0_corners 17 = .ok (.ifCond .ne 6, 3) := dk_154 0 6 (dk_at dksX0_corners_0 17 rfl rfl)
theorem dX0_corners_20 : decode cX0_corners 20 = .ok (.bipush (-2), 2) := dk_16 254 (dk_at dksX0_corners_0 20 rfl rfl)
theorem dX0_corners_22 : decode cX0_corners 22 = .ok (.ireturn, 1) := dk_172 (dk_at dksX0_corners_0 22 rfl rfl)
theorem dX0_corners_23 : decode cX0_corners 23 = .ok (.aload_n 0, 1) := dk_42 (dk_at dksX0_corners_0 23 rfl rfl)
theorem dX0_corners_24 : decode cX0_corners 24 = .ok (.invokevirtual 194, 3) := dk_182 0 194 (dk_at dksX0_corners_1 0 rfl rfl)
theorem dX0_corners_27 : decode cX0_corners 27 = .ok (.pop, 1) := dk_87 (dk_at dksX0_corners_1 3 rfl rfl)
theorem dX0_corners_28 : decode cX0_corners 28 = .ok (.iconst 0, 1) := dk_3 (dk_at dksX0_corners_1 4 rfl rfl)
theorem dX0_corners_29 : decode cX0_corners 29 = .ok (.istore_n 3, 1) := dk_62 (dk_at dksX0_corners_1 5 rfl rfl)
theorem dX0_corners_30 : decode cX0_corners 30 = .ok (.iconst 0, 1) := dk_3 (dk_at dksX0_corners_1 6 rfl rfl)
theorem dX0_corners_31 : decode cX0_corners 31 = .ok (.istore 4, 2) := dk_54 4 (dk_at dksX0_corners_1 7 rfl rfl)
theorem dX0_corners_33 : decode cX0_corners 33 = .ok (.iload 4, 2) := dk_21 4 (dk_at dksX0_corners_1 9 rfl rfl)
theorem dX0_corners_35 : decode cX0_corners 35 = .ok (.bipush 64, 2) := dk_16 64 (dk_at dksX0_corners_1 11 rfl rfl)
theorem dX0_corners_37 : decode cX0_corners 37 = .ok (.if_icmp .ge 48, 3) := dk_162 0 48 (dk_at dksX0_corners_1 13 rfl rfl)
theorem dX0_corners_40 : decode cX0_corners 40 = .ok (.iload_n 3, 1) := dk_29 (dk_at dksX0_corners_1 16 rfl rfl)
theorem dX0_corners_41 : decode cX0_corners 41 = .ok (.aload_n 0, 1) := dk_42 (dk_at dksX0_corners_1 17 rfl rfl)
theorem dX0_corners_42 : decode cX0_corners 42 = .ok (.getfield 68, 3) := dk_180 0 68 (dk_at dksX0_corners_1 18 rfl rfl)
theorem dX0_corners_45 : decode cX0_corners 45 = .ok (.getfield 275, 3) := dk_180 1 19 (dk_at dksX0_corners_1 21 rfl rfl)
theorem dX0_corners_48 : decode cX0_corners 48 = .ok (.iload_n 2, 1) := dk_28 (dk_at dksX0_corners_2 0 rfl rfl)
theorem dX0_corners_49 : decode cX0_corners 49 = .ok (.laload, 1) := dk_47 (dk_at dksX0_corners_2 1 rfl rfl)
theorem dX0_corners_50 : decode cX0_corners 50 = .ok (.iload 4, 2) := dk_21 4 (dk_at dksX0_corners_2 2 rfl rfl)
theorem dX0_corners_52 : decode cX0_corners 52 = .ok (.invokestatic 217, 3) := dk_184 0 217 (dk_at dksX0_corners_2 4 rfl rfl)
theorem dX0_corners_55 : decode cX0_corners 55 = .ok (.ifCond .eq 21, 3) := dk_153 0 21 (dk_at dksX0_corners_2 7 rfl rfl)
theorem dX0_corners_58 : decode cX0_corners 58 = .ok (.aload_n 0, 1) := dk_42 (dk_at dksX0_corners_2 10 rfl rfl)
theorem dX0_corners_59 : decode cX0_corners 59 = .ok (.iload 4, 2) := dk_21 4 (dk_at dksX0_corners_2 11 rfl rfl)
theorem dX0_corners_61 : decode cX0_corners 61 = .ok (.iload_n 2, 1) := dk_28 (dk_at dksX0_corners_2 13 rfl rfl)
theorem dX0_corners_62 : decode cX0_corners 62 = .ok (.invokevirtual 285, 3) := dk_182 1 29 (dk_at dksX0_corners_2 14 rfl rfl)
theorem dX0_corners_65 : decode cX0_corners 65 = .ok (.invokestatic 288, 3) := dk_184 1 32 (dk_at dksX0_corners_2 17 rfl rfl)
theorem dX0_corners_68 : decode cX0_corners 68 = .ok (.iload_n 1, 1) := dk_27 (dk_at dksX0_corners_2 20 rfl rfl)
theorem dX0_corners_69 : decode cX0_corners 69 = .ok (.if_icmp .ne 7, 3) := dk_160 0 7 (dk_at dksX0_corners_2 21 rfl rfl)
theorem dX0_corners_72 : decode cX0_corners 72 = .ok (.iconst 1, 1) := dk_4 (dk_at dksX0_corners_3 0 rfl rfl)
theorem dX0_corners_73 : decode cX0_corners 73 = .ok (.goto 4, 3) := dk_167 0 4 (dk_at dksX0_corners_3 1 rfl rfl)
theorem dX0_corners_76 : decode cX0_corners 76 = .ok (.iconst 0, 1) := dk_3 (dk_at dksX0_corners_3 4 rfl rfl)
theorem dX0_corners_77 : decode cX0_corners 77 = .ok (.iadd, 1) := dk_96 (dk_at dksX0_corners_3 5 rfl rfl)
theorem dX0_corners_78 : decode cX0_corners 78 = .ok (.istore_n 3, 1) := dk_62 (dk_at dksX0_corners_3 6 rfl rfl)
theorem dX0_corners_79 : decode cX0_corners 79 = .ok (.iinc 4 1, 3) := dk_132 4 1 (dk_at dksX0_corners_3 7 rfl rfl)
theorem dX0_corners_82 : decode cX0_corners 82 = .ok (.goto (-49), 3) := dk_167 255 207 (dk_at dksX0_corners_3 10 rfl rfl)
theorem dX0_corners_85 : decode cX0_corners 85 = .ok (.iload_n 3, 1) := dk_29 (dk_at dksX0_corners_3 13 rfl rfl)
theorem dX0_corners_86 : decode cX0_corners 86 = .ok (.ireturn, 1) := dk_172 (dk_at dksX0_corners_3 14 rfl rfl)
abbrev cX0_size : ByteArray := prog_1_method_3_code
def yX0_size : MethodName := ⟨RX0, "size", "(I)I"⟩
theorem dX0_size_0 : decode cX0_size 0 = .ok (.iload_n 0, 1) := by decide +kernel
theorem dX0_size_1 : decode cX0_size 1 = .ok (.invokestatic 1, 3) := by decide +kernel
theorem dX0_size_4 : decode cX0_size 4 = .ok (.ireturn, 1) := by decide +kernel
abbrev cX0_nets : ByteArray := prog_1_method_52_code
def yX0_nets : MethodName := ⟨RX0, "nets", "(I)I"⟩
def dkwX0_nets_0 : List UInt8 := [42, 27, 182, 1, 13, 154, 0, 6, 16, 254, 172, 42, 182, 0, 194, 87, 42, 27, 4, 182, 1, 48, 172]
abbrev dktX0_nets_0 : List UInt8 := dkwX0_nets_0 ++ []
theorem dksX0_nets_0 : cX0_nets.data.toList.drop 0 = dktX0_nets_0 := by decide +kernel
theorem dX0_nets_0 : decode cX0_nets 0 = .ok (.aload_n 0, 1) := dk_42 (dk_at dksX0_nets_0 0 rfl rfl)
theorem dX0_nets_1 : decode cX0_nets 1 = .ok (.iload_n 1, 1) := dk_27 (dk_at dksX0_nets_0 1 rfl rfl)
theorem dX0_nets_2 : decode cX0_nets 2 = .ok (.invokevirtual 269, 3) := dk_182 1 13 (dk_at dksX0_nets_0 2 rfl rfl)
theorem dX0_nets_5 : decode cX0_nets 5 = .ok (.ifCond .ne 6, 3) := dk_154 0 6 (dk_at dksX0_nets_0 5 rfl rfl)
theorem dX0_nets_8 : decode cX0_nets 8 = .ok (.bipush (-2), 2) := dk_16 254 (dk_at dksX0_nets_0 8 rfl rfl)
theorem dX0_nets_10 : decode cX0_nets 10 = .ok (.ireturn, 1) := dk_172 (dk_at dksX0_nets_0 10 rfl rfl)
theorem dX0_nets_11 : decode cX0_nets 11 = .ok (.aload_n 0, 1) := dk_42 (dk_at dksX0_nets_0 11 rfl rfl)
theorem dX0_nets_12 : decode cX0_nets 12 = .ok (.invokevirtual 194, 3) := dk_182 0 194 (dk_at dksX0_nets_0 12 rfl rfl)
theorem dX0_nets_15 : decode cX0_nets 15 = .ok (.pop, 1) := dk_87 (dk_at dksX0_nets_0 15 rfl rfl)
theorem dX0_nets_16 : decode cX0_nets 16 = .ok (.aload_n 0, 1) := dk_42 (dk_at dksX0_nets_0 16 rfl rfl)
theorem dX0_nets_17 : decode cX0_nets 17 = .ok (.iload_n 1, 1) := dk_27 (dk_at dksX0_nets_0 17 rfl rfl)
theorem dX0_nets_18 : decode cX0_nets 18 = .ok (.iconst 1, 1) := dk_4 (dk_at dksX0_nets_0 18 rfl rfl)
theorem dX0_nets_19 : decode cX0_nets 19 = .ok (.invokevirtual 304, 3) := dk_182 1 48 (dk_at dksX0_nets_0 19 rfl rfl)
theorem dX0_nets_22 : decode cX0_nets 22 = .ok (.ireturn, 1) := dk_172 (dk_at dksX0_nets_0 22 rfl rfl)
abbrev cX0_partsOf : ByteArray := prog_1_method_51_code
def yX0_partsOf : MethodName := ⟨RX0, "partsOf", "(IZ)I"⟩
def dkwX0_partsOf_4 : List UInt8 := [66, 132, 7, 1, 167, 255, 222, 132, 5, 1, 167, 255, 164, 21, 5, 172]
abbrev dktX0_partsOf_4 : List UInt8 := dkwX0_partsOf_4 ++ []
def dkwX0_partsOf_3 : List UInt8 := [180, 1, 44, 162, 0, 28, 33, 10, 42, 180, 0, 75, 180, 1, 45, 21, 7, 46, 121, 20, 0, 186, 131, 127]
abbrev dktX0_partsOf_3 : List UInt8 := dkwX0_partsOf_3 ++ dktX0_partsOf_4
def dkwX0_partsOf_2 : List UInt8 := [21, 6, 42, 180, 0, 68, 180, 1, 19, 27, 47, 182, 1, 41, 87, 3, 54, 7, 21, 7, 42, 180, 0, 75]
abbrev dktX0_partsOf_2 : List UInt8 := dkwX0_partsOf_2 ++ dktX0_partsOf_3
def dkwX0_partsOf_1 : List UInt8 := [54, 6, 28, 153, 0, 17, 42, 180, 0, 75, 21, 6, 27, 182, 1, 37, 87, 167, 0, 22, 42, 180, 0, 75]
abbrev dktX0_partsOf_1 : List UInt8 := dkwX0_partsOf_1 ++ dktX0_partsOf_2
def dkwX0_partsOf_0 : List UInt8 := [42, 180, 0, 68, 180, 1, 19, 27, 47, 66, 3, 54, 5, 33, 9, 148, 153, 0, 92, 33, 184, 1, 34]
abbrev dktX0_partsOf_0 : List UInt8 := dkwX0_partsOf_0 ++ dktX0_partsOf_1
theorem dksX0_partsOf_0 : cX0_partsOf.data.toList.drop 0 = dktX0_partsOf_0 := by decide +kernel
theorem dksX0_partsOf_1 : cX0_partsOf.data.toList.drop 23 = dktX0_partsOf_1 := dk_seg dksX0_partsOf_0 23 rfl rfl
theorem dksX0_partsOf_2 : cX0_partsOf.data.toList.drop 47 = dktX0_partsOf_2 := dk_seg dksX0_partsOf_1 24 rfl rfl
theorem dksX0_partsOf_3 : cX0_partsOf.data.toList.drop 71 = dktX0_partsOf_3 := dk_seg dksX0_partsOf_2 24 rfl rfl
theorem dksX0_partsOf_4 : cX0_partsOf.data.toList.drop 95 = dktX0_partsOf_4 := dk_seg dksX0_partsOf_3 24 rfl rfl
theorem dX0_partsOf_0 : decode cX0_partsOf 0 = .ok (.aload_n 0, 1) := dk_42 (dk_at dksX0_partsOf_0 0 rfl rfl)
theorem dX0_partsOf_1 : decode cX0_partsOf 1 = .ok (.getfield 68, 3) := dk_180 0 68 (dk_at dksX0_partsOf_0 1 rfl rfl)
theorem dX0_partsOf_4 : decode cX0_partsOf 4 = .ok (.getfield 275, 3) := dk_180 1 19 (dk_at dksX0_partsOf_0 4 rfl rfl)
theorem dX0_partsOf_7 : decode cX0_partsOf 7 = .ok (.iload_n 1, 1) := dk_27 (dk_at dksX0_partsOf_0 7 rfl rfl)
theorem dX0_partsOf_8 : decode cX0_partsOf 8 = .ok (.laload, 1) := dk_47 (dk_at dksX0_partsOf_0 8 rfl rfl)
theorem dX0_partsOf_9 : decode cX0_partsOf 9 = .ok (.lstore_n 3, 1) := dk_66 (dk_at dksX0_partsOf_0 9 rfl rfl)
theorem dX0_partsOf_10 : decode cX0_partsOf 10 = .ok (.iconst 0, 1) := dk_3 (dk_at dksX0_partsOf_0 10 rfl rfl)
theorem dX0_partsOf_11 : decode cX0_partsOf 11 = .ok (.istore 5, 2) := dk_54 5 (dk_at dksX0_partsOf_0 11 rfl rfl)
theorem dX0_partsOf_13 : decode cX0_partsOf 13 = .ok (.lload_n 3, 1) := dk_33 (dk_at dksX0_partsOf_0 13 rfl rfl)
theorem dX0_partsOf_14 : decode cX0_partsOf 14 = .ok (.lconst 0, 1) := dk_9 (dk_at dksX0_partsOf_0 14 rfl rfl)
theorem dX0_partsOf_15 : decode cX0_partsOf 15 = .ok (.lcmp, 1) := dk_148 (dk_at dksX0_partsOf_0 15 rfl rfl)
theorem dX0_partsOf_16 : decode cX0_partsOf 16 = .ok (.ifCond .eq 92, 3) := dk_153 0 92 (dk_at dksX0_partsOf_0 16 rfl rfl)
theorem dX0_partsOf_19 : decode cX0_partsOf 19 = .ok (.lload_n 3, 1) := dk_33 (dk_at dksX0_partsOf_0 19 rfl rfl)
theorem dX0_partsOf_20 : decode cX0_partsOf 20 = .ok (.invokestatic 290, 3) := dk_184 1 34 (dk_at dksX0_partsOf_0 20 rfl rfl)
theorem dX0_partsOf_23 : decode cX0_partsOf 23 = .ok (.istore 6, 2) := dk_54 6 (dk_at dksX0_partsOf_1 0 rfl rfl)
theorem dX0_partsOf_25 : decode cX0_partsOf 25 = .ok (.iload_n 2, 1) := dk_28 (dk_at dksX0_partsOf_1 2 rfl rfl)
theorem dX0_partsOf_26 : decode cX0_partsOf 26 = .ok (.ifCond .eq 17, 3) := dk_153 0 17 (dk_at dksX0_partsOf_1 3 rfl rfl)
theorem dX0_partsOf_29 : decode cX0_partsOf 29 = .ok (.aload_n 0, 1) := dk_42 (dk_at dksX0_partsOf_1 6 rfl rfl)
theorem dX0_partsOf_30 : decode cX0_partsOf 30 = .ok (.getfield 75, 3) := dk_180 0 75 (dk_at dksX0_partsOf_1 7 rfl rfl)
theorem dX0_partsOf_33 : decode cX0_partsOf 33 = .ok (.iload 6, 2) := dk_21 6 (dk_at dksX0_partsOf_1 10 rfl rfl)
theorem dX0_partsOf_35 : decode cX0_partsOf 35 = .ok (.iload_n 1, 1) := dk_27 (dk_at dksX0_partsOf_1 12 rfl rfl)
theorem dX0_partsOf_36 : decode cX0_partsOf 36 = .ok (.invokevirtual 293, 3) := dk_182 1 37 (dk_at dksX0_partsOf_1 13 rfl rfl)
theorem dX0_partsOf_39 : decode cX0_partsOf 39 = .ok (.pop, 1) := dk_87 (dk_at dksX0_partsOf_1 16 rfl rfl)
theorem dX0_partsOf_40 : decode cX0_partsOf 40 = .ok (.goto 22, 3) := dk_167 0 22 (dk_at dksX0_partsOf_1 17 rfl rfl)
theorem dX0_partsOf_43 : decode cX0_partsOf 43 = .ok (.aload_n 0, 1) := dk_42 (dk_at dksX0_partsOf_1 20 rfl rfl)
theorem dX0_partsOf_44 : decode cX0_partsOf 44 = .ok (.getfield 75, 3) := dk_180 0 75 (dk_at dksX0_partsOf_1 21 rfl rfl)
theorem dX0_partsOf_47 : decode cX0_partsOf 47 = .ok (.iload 6, 2) := dk_21 6 (dk_at dksX0_partsOf_2 0 rfl rfl)
theorem dX0_partsOf_49 : decode cX0_partsOf 49 = .ok (.aload_n 0, 1) := dk_42 (dk_at dksX0_partsOf_2 2 rfl rfl)
theorem dX0_partsOf_50 : decode cX0_partsOf 50 = .ok (.getfield 68, 3) := dk_180 0 68 (dk_at dksX0_partsOf_2 3 rfl rfl)
theorem dX0_partsOf_53 : decode cX0_partsOf 53 = .ok (.getfield 275, 3) := dk_180 1 19 (dk_at dksX0_partsOf_2 6 rfl rfl)
theorem dX0_partsOf_56 : decode cX0_partsOf 56 = .ok (.iload_n 1, 1) := dk_27 (dk_at dksX0_partsOf_2 9 rfl rfl)
theorem dX0_partsOf_57 : decode cX0_partsOf 57 = .ok (.laload, 1) := dk_47 (dk_at dksX0_partsOf_2 10 rfl rfl)
theorem dX0_partsOf_58 : decode cX0_partsOf 58 = .ok (.invokevirtual 297, 3) := dk_182 1 41 (dk_at dksX0_partsOf_2 11 rfl rfl)
theorem dX0_partsOf_61 : decode cX0_partsOf 61 = .ok (.pop, 1) := dk_87 (dk_at dksX0_partsOf_2 14 rfl rfl)
theorem dX0_partsOf_62 : decode cX0_partsOf 62 = .ok (.iconst 0, 1) := dk_3 (dk_at dksX0_partsOf_2 15 rfl rfl)
theorem dX0_partsOf_63 : decode cX0_partsOf 63 = .ok (.istore 7, 2) := dk_54 7 (dk_at dksX0_partsOf_2 16 rfl rfl)
theorem dX0_partsOf_65 : decode cX0_partsOf 65 = .ok (.iload 7, 2) := dk_21 7 (dk_at dksX0_partsOf_2 18 rfl rfl)
theorem dX0_partsOf_67 : decode cX0_partsOf 67 = .ok (.aload_n 0, 1) := dk_42 (dk_at dksX0_partsOf_2 20 rfl rfl)
theorem dX0_partsOf_68 : decode cX0_partsOf 68 = .ok (.getfield 75, 3) := dk_180 0 75 (dk_at dksX0_partsOf_2 21 rfl rfl)
theorem dX0_partsOf_71 : decode cX0_partsOf 71 = .ok (.getfield 300, 3) := dk_180 1 44 (dk_at dksX0_partsOf_3 0 rfl rfl)
theorem dX0_partsOf_74 : decode cX0_partsOf 74 = .ok (.if_icmp .ge 28, 3) := dk_162 0 28 (dk_at dksX0_partsOf_3 3 rfl rfl)
theorem dX0_partsOf_77 : decode cX0_partsOf 77 = .ok (.lload_n 3, 1) := dk_33 (dk_at dksX0_partsOf_3 6 rfl rfl)
theorem dX0_partsOf_78 : decode cX0_partsOf 78 = .ok (.lconst 1, 1) := dk_10 (dk_at dksX0_partsOf_3 7 rfl rfl)
theorem dX0_partsOf_79 : decode cX0_partsOf 79 = .ok (.aload_n 0, 1) := dk_42 (dk_at dksX0_partsOf_3 8 rfl rfl)
theorem dX0_partsOf_80 : decode cX0_partsOf 80 = .ok (.getfield 75, 3) := dk_180 0 75 (dk_at dksX0_partsOf_3 9 rfl rfl)
theorem dX0_partsOf_83 : decode cX0_partsOf 83 = .ok (.getfield 301, 3) := dk_180 1 45 (dk_at dksX0_partsOf_3 12 rfl rfl)
theorem dX0_partsOf_86 : decode cX0_partsOf 86 = .ok (.iload 7, 2) := dk_21 7 (dk_at dksX0_partsOf_3 15 rfl rfl)
theorem dX0_partsOf_88 : decode cX0_partsOf 88 = .ok (.iaload, 1) := dk_46 (dk_at dksX0_partsOf_3 17 rfl rfl)
theorem dX0_partsOf_89 : decode cX0_partsOf 89 = .ok (.lshl, 1) := dk_121 (dk_at dksX0_partsOf_3 18 rfl rfl)
theorem dX0_partsOf_90 : decode cX0_partsOf 90 = .ok (.ldc2_w 186, 3) := dk_20 0 186 (dk_at dksX0_partsOf_3 19 rfl rfl)
theorem dX0_partsOf_93 : decode cX0_partsOf 93 = .ok (.lxor, 1) := dk_131 (dk_at dksX0_partsOf_3 22 rfl rfl)
theorem dX0_partsOf_94 : decode cX0_partsOf 94 = .ok (.land, 1) := dk_127 (dk_at dksX0_partsOf_3 23 rfl rfl)
theorem dX0_partsOf_95 : decode cX0_partsOf 95 = .ok (.lstore_n 3, 1) := dk_66 (dk_at dksX0_partsOf_4 0 rfl rfl)
theorem dX0_partsOf_96 : decode cX0_partsOf 96 = .ok (.iinc 7 1, 3) := dk_132 7 1 (dk_at dksX0_partsOf_4 1 rfl rfl)
theorem dX0_partsOf_99 : decode cX0_partsOf 99 = .ok (.goto (-34), 3) := dk_167 255 222 (dk_at dksX0_partsOf_4 4 rfl rfl)
theorem dX0_partsOf_102 : decode cX0_partsOf 102 = .ok (.iinc 5 1, 3) := dk_132 5 1 (dk_at dksX0_partsOf_4 7 rfl rfl)
theorem dX0_partsOf_105 : decode cX0_partsOf 105 = .ok (.goto (-92), 3) := dk_167 255 164 (dk_at dksX0_partsOf_4 10 rfl rfl)
theorem dX0_partsOf_108 : decode cX0_partsOf 108 = .ok (.iload 5, 2) := dk_21 5 (dk_at dksX0_partsOf_4 13 rfl rfl)
theorem dX0_partsOf_110 : decode cX0_partsOf 110 = .ok (.ireturn, 1) := dk_172 (dk_at dksX0_partsOf_4 15 rfl rfl)
abbrev cX0_missing : ByteArray := prog_1_method_53_code
def yX0_missing : MethodName := ⟨RX0, "missing", "(I)I"⟩
def dkwX0_missing_2 : List UInt8 := [172]
abbrev dktX0_missing_2 : List UInt8 := dkwX0_missing_2 ++ []
def dkwX0_missing_1 : List UInt8 := [154, 0, 7, 3, 167, 0, 20, 42, 27, 3, 182, 1, 48, 4, 160, 0, 9, 28, 4, 100, 167, 0, 4, 2]
abbrev dktX0_missing_1 : List UInt8 := dkwX0_missing_1 ++ dktX0_missing_2
def dkwX0_missing_0 : List UInt8 := [42, 27, 182, 1, 13, 154, 0, 6, 16, 254, 172, 42, 182, 0, 194, 87, 42, 27, 4, 182, 1, 48, 61, 28]
abbrev dktX0_missing_0 : List UInt8 := dkwX0_missing_0 ++ dktX0_missing_1
theorem dksX0_missing_0 : cX0_missing.data.toList.drop 0 = dktX0_missing_0 := by decide +kernel
theorem dksX0_missing_1 : cX0_missing.data.toList.drop 24 = dktX0_missing_1 := dk_seg dksX0_missing_0 24 rfl rfl
theorem dksX0_missing_2 : cX0_missing.data.toList.drop 48 = dktX0_missing_2 := dk_seg dksX0_missing_1 24 rfl rfl
theorem dX0_missing_0 : decode cX0_missing 0 = .ok (.aload_n 0, 1) := dk_42 (dk_at dksX0_missing_0 0 rfl rfl)
theorem dX0_missing_1 : decode cX0_missing 1 = .ok (.iload_n 1, 1) := dk_27 (dk_at dksX0_missing_0 1 rfl rfl)
theorem dX0_missing_2 : decode cX0_missing 2 = .ok (.invokevirtual 269, 3) := dk_182 1 13 (dk_at dksX0_missing_0 2 rfl rfl)
theorem dX0_missing_5 : decode cX0_missing 5 = .ok (.ifCond .ne 6, 3) := dk_154 0 6 (dk_at dksX0_missing_0 5 rfl rfl)
theorem dX0_missing_8 : decode cX0_missing 8 = .ok (.bipush (-2), 2) := dk_16 254 (dk_at dksX0_missing_0 8 rfl rfl)
theorem dX0_missing_10 : decode cX0_missing 10 = .ok (.ireturn, 1) := dk_172 (dk_at dksX0_missing_0 10 rfl rfl)
theorem dX0_missing_11 : decode cX0_missing 11 = .ok (.aload_n 0, 1) := dk_42 (dk_at dksX0_missing_0 11 rfl rfl)
theorem dX0_missing_12 : decode cX0_missing 12 = .ok (.invokevirtual 194, 3) := dk_182 0 194 (dk_at dksX0_missing_0 12 rfl rfl)
theorem dX0_missing_15 : decode cX0_missing 15 = .ok (.pop, 1) := dk_87 (dk_at dksX0_missing_0 15 rfl rfl)
theorem dX0_missing_16 : decode cX0_missing 16 = .ok (.aload_n 0, 1) := dk_42 (dk_at dksX0_missing_0 16 rfl rfl)
theorem dX0_missing_17 : decode cX0_missing 17 = .ok (.iload_n 1, 1) := dk_27 (dk_at dksX0_missing_0 17 rfl rfl)
theorem dX0_missing_18 : decode cX0_missing 18 = .ok (.iconst 1, 1) := dk_4 (dk_at dksX0_missing_0 18 rfl rfl)
theorem dX0_missing_19 : decode cX0_missing 19 = .ok (.invokevirtual 304, 3) := dk_182 1 48 (dk_at dksX0_missing_0 19 rfl rfl)
theorem dX0_missing_22 : decode cX0_missing 22 = .ok (.istore_n 2, 1) := dk_61 (dk_at dksX0_missing_0 22 rfl rfl)
theorem dX0_missing_23 : decode cX0_missing 23 = .ok (.iload_n 2, 1) := dk_28 (dk_at dksX0_missing_0 23 rfl rfl)
theorem dX0_missing_24 : decode cX0_missing 24 = .ok (.ifCond .ne 7, 3) := dk_154 0 7 (dk_at dksX0_missing_1 0 rfl rfl)
theorem dX0_missing_27 : decode cX0_missing 27 = .ok (.iconst 0, 1) := dk_3 (dk_at dksX0_missing_1 3 rfl rfl)
theorem dX0_missing_28 : decode cX0_missing 28 = .ok (.goto 20, 3) := dk_167 0 20 (dk_at dksX0_missing_1 4 rfl rfl)
theorem dX0_missing_31 : decode cX0_missing 31 = .ok (.aload_n 0, 1) := dk_42 (dk_at dksX0_missing_1 7 rfl rfl)
theorem dX0_missing_32 : decode cX0_missing 32 = .ok (.iload_n 1, 1) := dk_27 (dk_at dksX0_missing_1 8 rfl rfl)
theorem dX0_missing_33 : decode cX0_missing 33 = .ok (.iconst 0, 1) := dk_3 (dk_at dksX0_missing_1 9 rfl rfl)
theorem dX0_missing_34 : decode cX0_missing 34 = .ok (.invokevirtual 304, 3) := dk_182 1 48 (dk_at dksX0_missing_1 10 rfl rfl)
theorem dX0_missing_37 : decode cX0_missing 37 = .ok (.iconst 1, 1) := dk_4 (dk_at dksX0_missing_1 13 rfl rfl)
theorem dX0_missing_38 : decode cX0_missing 38 = .ok (.if_icmp .ne 9, 3) := dk_160 0 9 (dk_at dksX0_missing_1 14 rfl rfl)
theorem dX0_missing_41 : decode cX0_missing 41 = .ok (.iload_n 2, 1) := dk_28 (dk_at dksX0_missing_1 17 rfl rfl)
theorem dX0_missing_42 : decode cX0_missing 42 = .ok (.iconst 1, 1) := dk_4 (dk_at dksX0_missing_1 18 rfl rfl)
theorem dX0_missing_43 : decode cX0_missing 43 = .ok (.isub, 1) := dk_100 (dk_at dksX0_missing_1 19 rfl rfl)
theorem dX0_missing_44 : decode cX0_missing 44 = .ok (.goto 4, 3) := dk_167 0 4 (dk_at dksX0_missing_1 20 rfl rfl)
theorem dX0_missing_47 : decode cX0_missing 47 = .ok (.iconst (-1), 1) := dk_2 (dk_at dksX0_missing_1 23 rfl rfl)
theorem dX0_missing_48 : decode cX0_missing 48 = .ok (.ireturn, 1) := dk_172 (dk_at dksX0_missing_2 0 rfl rfl)
abbrev cX0_rings : ByteArray := prog_1_method_54_code
def yX0_rings : MethodName := ⟨RX0, "rings", "(I)I"⟩
def dkwX0_rings_1 : List UInt8 := [42, 180, 0, 68, 180, 1, 19, 27, 47, 184, 0, 252, 100, 42, 27, 4, 182, 1, 48, 96, 172]
abbrev dktX0_rings_1 : List UInt8 := dkwX0_rings_1 ++ []
def dkwX0_rings_0 : List UInt8 := [42, 27, 182, 1, 13, 154, 0, 6, 16, 254, 172, 42, 182, 0, 194, 87, 42, 180, 0, 68, 27, 182, 1, 22]
abbrev dktX0_rings_0 : List UInt8 := dkwX0_rings_0 ++ dktX0_rings_1
theorem dksX0_rings_0 : cX0_rings.data.toList.drop 0 = dktX0_rings_0 := by decide +kernel
theorem dksX0_rings_1 : cX0_rings.data.toList.drop 24 = dktX0_rings_1 := dk_seg dksX0_rings_0 24 rfl rfl
theorem dX0_rings_0 : decode cX0_rings 0 = .ok (.aload_n 0, 1) := dk_42 (dk_at dksX0_rings_0 0 rfl rfl)
theorem dX0_rings_1 : decode cX0_rings 1 = .ok (.iload_n 1, 1) := dk_27 (dk_at dksX0_rings_0 1 rfl rfl)
theorem dX0_rings_2 : decode cX0_rings 2 = .ok (.invokevirtual 269, 3) := dk_182 1 13 (dk_at dksX0_rings_0 2 rfl rfl)
theorem dX0_rings_5 : decode cX0_rings 5 = .ok (.ifCond .ne 6, 3) := dk_154 0 6 (dk_at dksX0_rings_0 5 rfl rfl)
theorem dX0_rings_8 : decode cX0_rings 8 = .ok (.bipush (-2), 2) := dk_16 254 (dk_at dksX0_rings_0 8 rfl rfl)
theorem dX0_rings_10 : decode cX0_rings 10 = .ok (.ireturn, 1) := dk_172 (dk_at dksX0_rings_0 10 rfl rfl)
theorem dX0_rings_11 : decode cX0_rings 11 = .ok (.aload_n 0, 1) := dk_42 (dk_at dksX0_rings_0 11 rfl rfl)
theorem dX0_rings_12 : decode cX0_rings 12 = .ok (.invokevirtual 194, 3) := dk_182 0 194 (dk_at dksX0_rings_0 12 rfl rfl)
theorem dX0_rings_15 : decode cX0_rings 15 = .ok (.pop, 1) := dk_87 (dk_at dksX0_rings_0 15 rfl rfl)
theorem dX0_rings_16 : decode cX0_rings 16 = .ok (.aload_n 0, 1) := dk_42 (dk_at dksX0_rings_0 16 rfl rfl)
theorem dX0_rings_17 : decode cX0_rings 17 = .ok (.getfield 68, 3) := dk_180 0 68 (dk_at dksX0_rings_0 17 rfl rfl)
theorem dX0_rings_20 : decode cX0_rings 20 = .ok (.iload_n 1, 1) := dk_27 (dk_at dksX0_rings_0 20 rfl rfl)
theorem dX0_rings_21 : decode cX0_rings 21 = .ok (.invokevirtual 278, 3) := dk_182 1 22 (dk_at dksX0_rings_0 21 rfl rfl)
theorem dX0_rings_24 : decode cX0_rings 24 = .ok (.aload_n 0, 1) := dk_42 (dk_at dksX0_rings_1 0 rfl rfl)
theorem dX0_rings_25 : decode cX0_rings 25 = .ok (.getfield 68, 3) := dk_180 0 68 (dk_at dksX0_rings_1 1 rfl rfl)
theorem dX0_rings_28 : decode cX0_rings 28 = .ok (.getfield 275, 3) := dk_180 1 19 (dk_at dksX0_rings_1 4 rfl rfl)
theorem dX0_rings_31 : decode cX0_rings 31 = .ok (.iload_n 1, 1) := dk_27 (dk_at dksX0_rings_1 7 rfl rfl)
theorem dX0_rings_32 : decode cX0_rings 32 = .ok (.laload, 1) := dk_47 (dk_at dksX0_rings_1 8 rfl rfl)
theorem dX0_rings_33 : decode cX0_rings 33 = .ok (.invokestatic 252, 3) := dk_184 0 252 (dk_at dksX0_rings_1 9 rfl rfl)
theorem dX0_rings_36 : decode cX0_rings 36 = .ok (.isub, 1) := dk_100 (dk_at dksX0_rings_1 12 rfl rfl)
theorem dX0_rings_37 : decode cX0_rings 37 = .ok (.aload_n 0, 1) := dk_42 (dk_at dksX0_rings_1 13 rfl rfl)
theorem dX0_rings_38 : decode cX0_rings 38 = .ok (.iload_n 1, 1) := dk_27 (dk_at dksX0_rings_1 14 rfl rfl)
theorem dX0_rings_39 : decode cX0_rings 39 = .ok (.iconst 1, 1) := dk_4 (dk_at dksX0_rings_1 15 rfl rfl)
theorem dX0_rings_40 : decode cX0_rings 40 = .ok (.invokevirtual 304, 3) := dk_182 1 48 (dk_at dksX0_rings_1 16 rfl rfl)
theorem dX0_rings_43 : decode cX0_rings 43 = .ok (.iadd, 1) := dk_96 (dk_at dksX0_rings_1 19 rfl rfl)
theorem dX0_rings_44 : decode cX0_rings 44 = .ok (.ireturn, 1) := dk_172 (dk_at dksX0_rings_1 20 rfl rfl)
abbrev cX0_bridges : ByteArray := prog_1_method_55_code
def yX0_bridges : MethodName := ⟨RX0, "bridges", "(I)I"⟩
def dkwX0_bridges_4 : List UInt8 := [172]
abbrev dktX0_bridges_4 : List UInt8 := dkwX0_bridges_4 ++ []
def dkwX0_bridges_3 : List UInt8 := [182, 1, 55, 46, 2, 160, 0, 6, 132, 2, 1, 132, 4, 1, 167, 255, 203, 132, 3, 1, 167, 255, 188, 28]
abbrev dktX0_bridges_3 : List UInt8 := dkwX0_bridges_3 ++ dktX0_bridges_4
def dkwX0_bridges_2 : List UInt8 := [153, 0, 33, 42, 180, 0, 75, 29, 27, 29, 21, 4, 182, 1, 52, 180, 1, 7, 42, 29, 21, 4]
abbrev dktX0_bridges_2 : List UInt8 := dkwX0_bridges_2 ++ dktX0_bridges_3
def dkwX0_bridges_1 : List UInt8 := [162, 0, 68, 4, 54, 4, 21, 4, 6, 162, 0, 53, 42, 180, 0, 68, 29, 21, 4, 27, 182, 1, 25]
abbrev dktX0_bridges_1 : List UInt8 := dkwX0_bridges_1 ++ dktX0_bridges_2
def dkwX0_bridges_0 : List UInt8 := [42, 27, 182, 1, 13, 154, 0, 6, 16, 254, 172, 42, 182, 0, 194, 87, 3, 61, 3, 62, 29, 16, 64]
abbrev dktX0_bridges_0 : List UInt8 := dkwX0_bridges_0 ++ dktX0_bridges_1
theorem dksX0_bridges_0 : cX0_bridges.data.toList.drop 0 = dktX0_bridges_0 := by decide +kernel
theorem dksX0_bridges_1 : cX0_bridges.data.toList.drop 23 = dktX0_bridges_1 := dk_seg dksX0_bridges_0 23 rfl rfl
theorem dksX0_bridges_2 : cX0_bridges.data.toList.drop 46 = dktX0_bridges_2 := dk_seg dksX0_bridges_1 23 rfl rfl
theorem dksX0_bridges_3 : cX0_bridges.data.toList.drop 68 = dktX0_bridges_3 := dk_seg dksX0_bridges_2 22 rfl rfl
theorem dksX0_bridges_4 : cX0_bridges.data.toList.drop 92 = dktX0_bridges_4 := dk_seg dksX0_bridges_3 24 rfl rfl
theorem dX0_bridges_0 : decode cX0_bridges 0 = .ok (.aload_n 0, 1) := dk_42 (dk_at dksX0_bridges_0 0 rfl rfl)
theorem dX0_bridges_1 : decode cX0_bridges 1 = .ok (.iload_n 1, 1) := dk_27 (dk_at dksX0_bridges_0 1 rfl rfl)
theorem dX0_bridges_2 : decode cX0_bridges 2 = .ok (.invokevirtual 269, 3) := dk_182 1 13 (dk_at dksX0_bridges_0 2 rfl rfl)
theorem dX0_bridges_5 : decode cX0_bridges 5 = .ok (.ifCond .ne 6, 3) := dk_154 0 6 (dk_at dksX0_bridges_0 5 rfl rfl)
theorem dX0_bridges_8 : decode cX0_bridges 8 = .ok (.bipush (-2), 2) := dk_16 254 (dk_at dksX0_bridges_0 8 rfl rfl)
theorem dX0_bridges_10 : decode cX0_bridges 10 = .ok (.ireturn, 1) := dk_172 (dk_at dksX0_bridges_0 10 rfl rfl)
theorem dX0_bridges_11 : decode cX0_bridges 11 = .ok (.aload_n 0, 1) := dk_42 (dk_at dksX0_bridges_0 11 rfl rfl)
theorem dX0_bridges_12 : decode cX0_bridges 12 = .ok (.invokevirtual 194, 3) := dk_182 0 194 (dk_at dksX0_bridges_0 12 rfl rfl)
theorem dX0_bridges_15 : decode cX0_bridges 15 = .ok (.pop, 1) := dk_87 (dk_at dksX0_bridges_0 15 rfl rfl)
theorem dX0_bridges_16 : decode cX0_bridges 16 = .ok (.iconst 0, 1) := dk_3 (dk_at dksX0_bridges_0 16 rfl rfl)
theorem dX0_bridges_17 : decode cX0_bridges 17 = .ok (.istore_n 2, 1) := dk_61 (dk_at dksX0_bridges_0 17 rfl rfl)
theorem dX0_bridges_18 : decode cX0_bridges 18 = .ok (.iconst 0, 1) := dk_3 (dk_at dksX0_bridges_0 18 rfl rfl)
theorem dX0_bridges_19 : decode cX0_bridges 19 = .ok (.istore_n 3, 1) := dk_62 (dk_at dksX0_bridges_0 19 rfl rfl)
theorem dX0_bridges_20 : decode cX0_bridges 20 = .ok (.iload_n 3, 1) := dk_29 (dk_at dksX0_bridges_0 20 rfl rfl)
theorem dX0_bridges_21 : decode cX0_bridges 21 = .ok (.bipush 64, 2) := dk_16 64 (dk_at dksX0_bridges_0 21 rfl rfl)
theorem dX0_bridges_23 : decode cX0_bridges 23 = .ok (.if_icmp .ge 68, 3) := dk_162 0 68 (dk_at dksX0_bridges_1 0 rfl rfl)
theorem dX0_bridges_26 : decode cX0_bridges 26 = .ok (.iconst 1, 1) := dk_4 (dk_at dksX0_bridges_1 3 rfl rfl)
theorem dX0_bridges_27 : decode cX0_bridges 27 = .ok (.istore 4, 2) := dk_54 4 (dk_at dksX0_bridges_1 4 rfl rfl)
theorem dX0_bridges_29 : decode cX0_bridges 29 = .ok (.iload 4, 2) := dk_21 4 (dk_at dksX0_bridges_1 6 rfl rfl)
theorem dX0_bridges_31 : decode cX0_bridges 31 = .ok (.iconst 3, 1) := dk_6 (dk_at dksX0_bridges_1 8 rfl rfl)
theorem dX0_bridges_32 : decode cX0_bridges 32 = .ok (.if_icmp .ge 53, 3) := dk_162 0 53 (dk_at dksX0_bridges_1 9 rfl rfl)
theorem dX0_bridges_35 : decode cX0_bridges 35 = .ok (.aload_n 0, 1) := dk_42 (dk_at dksX0_bridges_1 12 rfl rfl)
theorem dX0_bridges_36 : decode cX0_bridges 36 = .ok (.getfield 68, 3) := dk_180 0 68 (dk_at dksX0_bridges_1 13 rfl rfl)
theorem dX0_bridges_39 : decode cX0_bridges 39 = .ok (.iload_n 3, 1) := dk_29 (dk_at dksX0_bridges_1 16 rfl rfl)
theorem dX0_bridges_40 : decode cX0_bridges 40 = .ok (.iload 4, 2) := dk_21 4 (dk_at dksX0_bridges_1 17 rfl rfl)
theorem dX0_bridges_42 : decode cX0_bridges 42 = .ok (.iload_n 1, 1) := dk_27 (dk_at dksX0_bridges_1 19 rfl rfl)
theorem dX0_bridges_43 : decode cX0_bridges 43 = .ok (.invokevirtual 281, 3) := dk_182 1 25 (dk_at dksX0_bridges_1 20 rfl rfl)
theorem dX0_bridges_46 : decode cX0_bridges 46 = .ok (.ifCond .eq 33, 3) := dk_153 0 33 (dk_at dksX0_bridges_2 0 rfl rfl)
theorem dX0_bridges_49 : decode cX0_bridges 49 = .ok (.aload_n 0, 1) := dk_42 (dk_at dksX0_bridges_2 3 rfl rfl)
theorem dX0_bridges_50 : decode cX0_bridges 50 = .ok (.getfield 75, 3) := dk_180 0 75 (dk_at dksX0_bridges_2 4 rfl rfl)
theorem dX0_bridges_53 : decode cX0_bridges 53 = .ok (.iload_n 3, 1) := dk_29 (dk_at dksX0_bridges_2 7 rfl rfl)
theorem dX0_bridges_54 : decode cX0_bridges 54 = .ok (.iload_n 1, 1) := dk_27 (dk_at dksX0_bridges_2 8 rfl rfl)
theorem dX0_bridges_55 : decode cX0_bridges 55 = .ok (.iload_n 3, 1) := dk_29 (dk_at dksX0_bridges_2 9 rfl rfl)
theorem dX0_bridges_56 : decode cX0_bridges 56 = .ok (.iload 4, 2) := dk_21 4 (dk_at dksX0_bridges_2 10 rfl rfl)
theorem dX0_bridges_58 : decode cX0_bridges 58 = .ok (.invokevirtual 308, 3) := dk_182 1 52 (dk_at dksX0_bridges_2 12 rfl rfl)
theorem dX0_bridges_61 : decode cX0_bridges 61 = .ok (.getfield 263, 3) := dk_180 1 7 (dk_at dksX0_bridges_2 15 rfl rfl)
theorem dX0_bridges_64 : decode cX0_bridges 64 = .ok (.aload_n 0, 1) := dk_42 (dk_at dksX0_bridges_2 18 rfl rfl)
theorem dX0_bridges_65 : decode cX0_bridges 65 = .ok (.iload_n 3, 1) := dk_29 (dk_at dksX0_bridges_2 19 rfl rfl)
theorem dX0_bridges_66 : decode cX0_bridges 66 = .ok (.iload 4, 2) := dk_21 4 (dk_at dksX0_bridges_2 20 rfl rfl)
theorem dX0_bridges_68 : decode cX0_bridges 68 = .ok (.invokevirtual 311, 3) := dk_182 1 55 (dk_at dksX0_bridges_3 0 rfl rfl)
theorem dX0_bridges_71 : decode cX0_bridges 71 = .ok (.iaload, 1) := dk_46 (dk_at dksX0_bridges_3 3 rfl rfl)
theorem dX0_bridges_72 : decode cX0_bridges 72 = .ok (.iconst (-1), 1) := dk_2 (dk_at dksX0_bridges_3 4 rfl rfl)
theorem dX0_bridges_73 : decode cX0_bridges 73 = .ok (.if_icmp .ne 6, 3) := dk_160 0 6 (dk_at dksX0_bridges_3 5 rfl rfl)
theorem dX0_bridges_76 : decode cX0_bridges 76 = .ok (.iinc 2 1, 3) := dk_132 2 1 (dk_at dksX0_bridges_3 8 rfl rfl)
theorem dX0_bridges_79 : decode cX0_bridges 79 = .ok (.iinc 4 1, 3) := dk_132 4 1 (dk_at dksX0_bridges_3 11 rfl rfl)
theorem dX0_bridges_82 : decode cX0_bridges 82 = .ok (.goto (-53), 3) := dk_167 255 203 (dk_at dksX0_bridges_3 14 rfl rfl)
theorem dX0_bridges_85 : decode cX0_bridges 85 = .ok (.iinc 3 1, 3) := dk_132 3 1 (dk_at dksX0_bridges_3 17 rfl rfl)
theorem dX0_bridges_88 : decode cX0_bridges 88 = .ok (.goto (-68), 3) := dk_167 255 188 (dk_at dksX0_bridges_3 20 rfl rfl)
theorem dX0_bridges_91 : decode cX0_bridges 91 = .ok (.iload_n 2, 1) := dk_28 (dk_at dksX0_bridges_3 23 rfl rfl)
theorem dX0_bridges_92 : decode cX0_bridges 92 = .ok (.ireturn, 1) := dk_172 (dk_at dksX0_bridges_4 0 rfl rfl)
abbrev cX0_net : ByteArray := prog_1_method_56_code
def yX0_net : MethodName := ⟨RX0, "net", "(II)I"⟩
def dkwX0_net_2 : List UInt8 := [180, 1, 44, 167, 0, 4, 3, 172]
abbrev dktX0_net_2 : List UInt8 := dkwX0_net_2 ++ []
def dkwX0_net_1 : List UInt8 := [184, 0, 213, 184, 0, 217, 153, 0, 22, 42, 180, 0, 75, 27, 133, 184, 0, 213, 28, 182, 1, 37]
abbrev dktX0_net_1 : List UInt8 := dkwX0_net_1 ++ dktX0_net_2
def dkwX0_net_0 : List UInt8 := [42, 27, 28, 182, 1, 16, 154, 0, 6, 16, 254, 172, 42, 182, 0, 194, 180, 1, 19, 28, 47, 27, 133]
abbrev dktX0_net_0 : List UInt8 := dkwX0_net_0 ++ dktX0_net_1
theorem dksX0_net_0 : cX0_net.data.toList.drop 0 = dktX0_net_0 := by decide +kernel
theorem dksX0_net_1 : cX0_net.data.toList.drop 23 = dktX0_net_1 := dk_seg dksX0_net_0 23 rfl rfl
theorem dksX0_net_2 : cX0_net.data.toList.drop 45 = dktX0_net_2 := dk_seg dksX0_net_1 22 rfl rfl
theorem dX0_net_0 : decode cX0_net 0 = .ok (.aload_n 0, 1) := dk_42 (dk_at dksX0_net_0 0 rfl rfl)
theorem dX0_net_1 : decode cX0_net 1 = .ok (.iload_n 1, 1) := dk_27 (dk_at dksX0_net_0 1 rfl rfl)
theorem dX0_net_2 : decode cX0_net 2 = .ok (.iload_n 2, 1) := dk_28 (dk_at dksX0_net_0 2 rfl rfl)
theorem dX0_net_3 : decode cX0_net 3 = .ok (.invokevirtual 272, 3) := dk_182 1 16 (dk_at dksX0_net_0 3 rfl rfl)
theorem dX0_net_6 : decode cX0_net 6 = .ok (.ifCond .ne 6, 3) := dk_154 0 6 (dk_at dksX0_net_0 6 rfl rfl)
theorem dX0_net_9 : decode cX0_net 9 = .ok (.bipush (-2), 2) := dk_16 254 (dk_at dksX0_net_0 9 rfl rfl)
theorem dX0_net_11 : decode cX0_net 11 = .ok (.ireturn, 1) := dk_172 (dk_at dksX0_net_0 11 rfl rfl)
theorem dX0_net_12 : decode cX0_net 12 = .ok (.aload_n 0, 1) := dk_42 (dk_at dksX0_net_0 12 rfl rfl)
theorem dX0_net_13 : decode cX0_net 13 = .ok (.invokevirtual 194, 3) := dk_182 0 194 (dk_at dksX0_net_0 13 rfl rfl)
theorem dX0_net_16 : decode cX0_net 16 = .ok (.getfield 275, 3) := dk_180 1 19 (dk_at dksX0_net_0 16 rfl rfl)
theorem dX0_net_19 : decode cX0_net 19 = .ok (.iload_n 2, 1) := dk_28 (dk_at dksX0_net_0 19 rfl rfl)
theorem dX0_net_20 : decode cX0_net 20 = .ok (.laload, 1) := dk_47 (dk_at dksX0_net_0 20 rfl rfl)
theorem dX0_net_21 : decode cX0_net 21 = .ok (.iload_n 1, 1) := dk_27 (dk_at dksX0_net_0 21 rfl rfl)
theorem dX0_net_22 : decode cX0_net 22 = .ok (.i2l, 1) := dk_133 (dk_at dksX0_net_0 22 rfl rfl)
theorem dX0_net_23 : decode cX0_net 23 = .ok (.invokestatic 213, 3) := dk_184 0 213 (dk_at dksX0_net_1 0 rfl rfl)
theorem dX0_net_26 : decode cX0_net 26 = .ok (.invokestatic 217, 3) := dk_184 0 217 (dk_at dksX0_net_1 3 rfl rfl)
theorem dX0_net_29 : decode cX0_net 29 = .ok (.ifCond .eq 22, 3) := dk_153 0 22 (dk_at dksX0_net_1 6 rfl rfl)
theorem dX0_net_32 : decode cX0_net 32 = .ok (.aload_n 0, 1) := dk_42 (dk_at dksX0_net_1 9 rfl rfl)
theorem dX0_net_33 : decode cX0_net 33 = .ok (.getfield 75, 3) := dk_180 0 75 (dk_at dksX0_net_1 10 rfl rfl)
theorem dX0_net_36 : decode cX0_net 36 = .ok (.iload_n 1, 1) := dk_27 (dk_at dksX0_net_1 13 rfl rfl)
theorem dX0_net_37 : decode cX0_net 37 = .ok (.i2l, 1) := dk_133 (dk_at dksX0_net_1 14 rfl rfl)
theorem dX0_net_38 : decode cX0_net 38 = .ok (.invokestatic 213, 3) := dk_184 0 213 (dk_at dksX0_net_1 15 rfl rfl)
theorem dX0_net_41 : decode cX0_net 41 = .ok (.iload_n 2, 1) := dk_28 (dk_at dksX0_net_1 18 rfl rfl)
theorem dX0_net_42 : decode cX0_net 42 = .ok (.invokevirtual 293, 3) := dk_182 1 37 (dk_at dksX0_net_1 19 rfl rfl)
theorem dX0_net_45 : decode cX0_net 45 = .ok (.getfield 300, 3) := dk_180 1 44 (dk_at dksX0_net_2 0 rfl rfl)
theorem dX0_net_48 : decode cX0_net 48 = .ok (.goto 4, 3) := dk_167 0 4 (dk_at dksX0_net_2 3 rfl rfl)
theorem dX0_net_51 : decode cX0_net 51 = .ok (.iconst 0, 1) := dk_3 (dk_at dksX0_net_2 6 rfl rfl)
theorem dX0_net_52 : decode cX0_net 52 = .ok (.ireturn, 1) := dk_172 (dk_at dksX0_net_2 7 rfl rfl)
abbrev cX0_way : ByteArray := prog_1_method_57_code
def yX0_way : MethodName := ⟨RX0, "way", "(III)I"⟩
def dkwX0_way_2 : List UInt8 := [133, 184, 0, 213, 29, 182, 1, 37, 180, 1, 7, 28, 133, 184, 0, 213, 46, 167, 0, 4, 2, 172]
abbrev dktX0_way_2 : List UInt8 := dkwX0_way_2 ++ []
def dkwX0_way_1 : List UInt8 := [182, 0, 194, 180, 1, 19, 29, 47, 27, 133, 184, 0, 213, 184, 0, 217, 153, 0, 28, 42, 180, 0, 75, 27]
abbrev dktX0_way_1 : List UInt8 := dkwX0_way_1 ++ dktX0_way_2
def dkwX0_way_0 : List UInt8 := [42, 27, 133, 182, 0, 206, 153, 0, 12, 42, 28, 29, 182, 1, 16, 154, 0, 6, 16, 254, 172, 42]
abbrev dktX0_way_0 : List UInt8 := dkwX0_way_0 ++ dktX0_way_1
theorem dksX0_way_0 : cX0_way.data.toList.drop 0 = dktX0_way_0 := by decide +kernel
theorem dksX0_way_1 : cX0_way.data.toList.drop 22 = dktX0_way_1 := dk_seg dksX0_way_0 22 rfl rfl
theorem dksX0_way_2 : cX0_way.data.toList.drop 46 = dktX0_way_2 := dk_seg dksX0_way_1 24 rfl rfl
theorem dX0_way_0 : decode cX0_way 0 = .ok (.aload_n 0, 1) := dk_42 (dk_at dksX0_way_0 0 rfl rfl)
theorem dX0_way_1 : decode cX0_way 1 = .ok (.iload_n 1, 1) := dk_27 (dk_at dksX0_way_0 1 rfl rfl)
theorem dX0_way_2 : decode cX0_way 2 = .ok (.i2l, 1) := dk_133 (dk_at dksX0_way_0 2 rfl rfl)
theorem dX0_way_3 : decode cX0_way 3 = .ok (.invokevirtual 206, 3) := dk_182 0 206 (dk_at dksX0_way_0 3 rfl rfl)
theorem dX0_way_6 : decode cX0_way 6 = .ok (.ifCond .eq 12, 3) := dk_153 0 12 (dk_at dksX0_way_0 6 rfl rfl)
theorem dX0_way_9 : decode cX0_way 9 = .ok (.aload_n 0, 1) := dk_42 (dk_at dksX0_way_0 9 rfl rfl)
theorem dX0_way_10 : decode cX0_way 10 = .ok (.iload_n 2, 1) := dk_28 (dk_at dksX0_way_0 10 rfl rfl)
theorem dX0_way_11 : decode cX0_way 11 = .ok (.iload_n 3, 1) := dk_29 (dk_at dksX0_way_0 11 rfl rfl)
theorem dX0_way_12 : decode cX0_way 12 = .ok (.invokevirtual 272, 3) := dk_182 1 16 (dk_at dksX0_way_0 12 rfl rfl)
theorem dX0_way_15 : decode cX0_way 15 = .ok (.ifCond .ne 6, 3) := dk_154 0 6 (dk_at dksX0_way_0 15 rfl rfl)
theorem dX0_way_18 : decode cX0_way 18 = .ok (.bipush (-2), 2) := dk_16 254 (dk_at dksX0_way_0 18 rfl rfl)
theorem dX0_way_20 : decode cX0_way 20 = .ok (.ireturn, 1) := dk_172 (dk_at dksX0_way_0 20 rfl rfl)
theorem dX0_way_21 : decode cX0_way 21 = .ok (.aload_n 0, 1) := dk_42 (dk_at dksX0_way_0 21 rfl rfl)
theorem dX0_way_22 : decode cX0_way 22 = .ok (.invokevirtual 194, 3) := dk_182 0 194 (dk_at dksX0_way_1 0 rfl rfl)
theorem dX0_way_25 : decode cX0_way 25 = .ok (.getfield 275, 3) := dk_180 1 19 (dk_at dksX0_way_1 3 rfl rfl)
theorem dX0_way_28 : decode cX0_way 28 = .ok (.iload_n 3, 1) := dk_29 (dk_at dksX0_way_1 6 rfl rfl)
theorem dX0_way_29 : decode cX0_way 29 = .ok (.laload, 1) := dk_47 (dk_at dksX0_way_1 7 rfl rfl)
theorem dX0_way_30 : decode cX0_way 30 = .ok (.iload_n 1, 1) := dk_27 (dk_at dksX0_way_1 8 rfl rfl)
theorem dX0_way_31 : decode cX0_way 31 = .ok (.i2l, 1) := dk_133 (dk_at dksX0_way_1 9 rfl rfl)
theorem dX0_way_32 : decode cX0_way 32 = .ok (.invokestatic 213, 3) := dk_184 0 213 (dk_at dksX0_way_1 10 rfl rfl)
theorem dX0_way_35 : decode cX0_way 35 = .ok (.invokestatic 217, 3) := dk_184 0 217 (dk_at dksX0_way_1 13 rfl rfl)
theorem dX0_way_38 : decode cX0_way 38 = .ok (.ifCond .eq 28, 3) := dk_153 0 28 (dk_at dksX0_way_1 16 rfl rfl)
theorem dX0_way_41 : decode cX0_way 41 = .ok (.aload_n 0, 1) := dk_42 (dk_at dksX0_way_1 19 rfl rfl)
theorem dX0_way_42 : decode cX0_way 42 = .ok (.getfield 75, 3) := dk_180 0 75 (dk_at dksX0_way_1 20 rfl rfl)
theorem dX0_way_45 : decode cX0_way 45 = .ok (.iload_n 1, 1) := dk_27 (dk_at dksX0_way_1 23 rfl rfl)
theorem dX0_way_46 : decode cX0_way 46 = .ok (.i2l, 1) := dk_133 (dk_at dksX0_way_2 0 rfl rfl)
theorem dX0_way_47 : decode cX0_way 47 = .ok (.invokestatic 213, 3) := dk_184 0 213 (dk_at dksX0_way_2 1 rfl rfl)
theorem dX0_way_50 : decode cX0_way 50 = .ok (.iload_n 3, 1) := dk_29 (dk_at dksX0_way_2 4 rfl rfl)
theorem dX0_way_51 : decode cX0_way 51 = .ok (.invokevirtual 293, 3) := dk_182 1 37 (dk_at dksX0_way_2 5 rfl rfl)
theorem dX0_way_54 : decode cX0_way 54 = .ok (.getfield 263, 3) := dk_180 1 7 (dk_at dksX0_way_2 8 rfl rfl)
theorem dX0_way_57 : decode cX0_way 57 = .ok (.iload_n 2, 1) := dk_28 (dk_at dksX0_way_2 11 rfl rfl)
theorem dX0_way_58 : decode cX0_way 58 = .ok (.i2l, 1) := dk_133 (dk_at dksX0_way_2 12 rfl rfl)
theorem dX0_way_59 : decode cX0_way 59 = .ok (.invokestatic 213, 3) := dk_184 0 213 (dk_at dksX0_way_2 13 rfl rfl)
theorem dX0_way_62 : decode cX0_way 62 = .ok (.iaload, 1) := dk_46 (dk_at dksX0_way_2 16 rfl rfl)
theorem dX0_way_63 : decode cX0_way 63 = .ok (.goto 4, 3) := dk_167 0 4 (dk_at dksX0_way_2 17 rfl rfl)
theorem dX0_way_66 : decode cX0_way 66 = .ok (.iconst (-1), 1) := dk_2 (dk_at dksX0_way_2 20 rfl rfl)
theorem dX0_way_67 : decode cX0_way 67 = .ok (.ireturn, 1) := dk_172 (dk_at dksX0_way_2 21 rfl rfl)
abbrev cX0_farthest : ByteArray := prog_1_method_58_code
def yX0_farthest : MethodName := ⟨RX0, "farthest", "(II)I"⟩
def dkwX0_farthest_5 : List UInt8 := [132, 4, 1, 167, 255, 193, 29, 184, 0, 226, 172]
abbrev dktX0_farthest_5 : List UInt8 := dkwX0_farthest_5 ++ []
def dkwX0_farthest_4 : List UInt8 := [46, 42, 180, 0, 75, 180, 1, 7, 29, 46, 160, 0, 12, 21, 4, 29, 162, 0, 6, 21, 4, 62]
abbrev dktX0_farthest_4 : List UInt8 := dkwX0_farthest_4 ++ dktX0_farthest_5
def dkwX0_farthest_3 : List UInt8 := [21, 4, 46, 42, 180, 0, 75, 180, 1, 7, 29, 46, 163, 0, 31, 42, 180, 0, 75, 180, 1, 7, 21, 4]
abbrev dktX0_farthest_3 : List UInt8 := dkwX0_farthest_3 ++ dktX0_farthest_4
def dkwX0_farthest_2 : List UInt8 := [87, 27, 133, 184, 0, 213, 62, 3, 54, 4, 21, 4, 16, 64, 162, 0, 62, 42, 180, 0, 75, 180, 1, 7]
abbrev dktX0_farthest_2 : List UInt8 := dkwX0_farthest_2 ++ dktX0_farthest_3
def dkwX0_farthest_1 : List UInt8 := [184, 0, 213, 184, 0, 217, 154, 0, 5, 2, 172, 42, 180, 0, 75, 27, 133, 184, 0, 213, 28, 182, 1, 37]
abbrev dktX0_farthest_1 : List UInt8 := dkwX0_farthest_1 ++ dktX0_farthest_2
def dkwX0_farthest_0 : List UInt8 := [42, 27, 28, 182, 1, 16, 154, 0, 6, 16, 254, 172, 42, 182, 0, 194, 180, 1, 19, 28, 47, 27, 133]
abbrev dktX0_farthest_0 : List UInt8 := dkwX0_farthest_0 ++ dktX0_farthest_1
theorem dksX0_farthest_0 : cX0_farthest.data.toList.drop 0 = dktX0_farthest_0 := by decide +kernel
theorem dksX0_farthest_1 : cX0_farthest.data.toList.drop 23 = dktX0_farthest_1 := dk_seg dksX0_farthest_0 23 rfl rfl
theorem dksX0_farthest_2 : cX0_farthest.data.toList.drop 47 = dktX0_farthest_2 := dk_seg dksX0_farthest_1 24 rfl rfl
theorem dksX0_farthest_3 : cX0_farthest.data.toList.drop 71 = dktX0_farthest_3 := dk_seg dksX0_farthest_2 24 rfl rfl
theorem dksX0_farthest_4 : cX0_farthest.data.toList.drop 95 = dktX0_farthest_4 := dk_seg dksX0_farthest_3 24 rfl rfl
theorem dksX0_farthest_5 : cX0_farthest.data.toList.drop 117 = dktX0_farthest_5 := dk_seg dksX0_farthest_4 22 rfl rfl
theorem dX0_farthest_0 : decode cX0_farthest 0 = .ok (.aload_n 0, 1) := dk_42 (dk_at dksX0_farthest_0 0 rfl rfl)
theorem dX0_farthest_1 : decode cX0_farthest 1 = .ok (.iload_n 1, 1) := dk_27 (dk_at dksX0_farthest_0 1 rfl rfl)
theorem dX0_farthest_2 : decode cX0_farthest 2 = .ok (.iload_n 2, 1) := dk_28 (dk_at dksX0_farthest_0 2 rfl rfl)
theorem dX0_farthest_3 : decode cX0_farthest 3 = .ok (.invokevirtual 272, 3) := dk_182 1 16 (dk_at dksX0_farthest_0 3 rfl rfl)
theorem dX0_farthest_6 : decode cX0_farthest 6 = .ok (.ifCond .ne 6, 3) := dk_154 0 6 (dk_at dksX0_farthest_0 6 rfl rfl)
theorem dX0_farthest_9 : decode cX0_farthest 9 = .ok (.bipush (-2), 2) := dk_16 254 (dk_at dksX0_farthest_0 9 rfl rfl)
theorem dX0_farthest_11 : decode cX0_farthest 11 = .ok (.ireturn, 1) := dk_172 (dk_at dksX0_farthest_0 11 rfl rfl)
theorem dX0_farthest_12 : decode cX0_farthest 12 = .ok (.aload_n 0, 1) := dk_42 (dk_at dksX0_farthest_0 12 rfl rfl)
theorem dX0_farthest_13 : decode cX0_farthest 13 = .ok (.invokevirtual 194, 3) := dk_182 0 194 (dk_at dksX0_farthest_0 13 rfl rfl)
theorem dX0_farthest_16 : decode cX0_farthest 16 = .ok (.getfield 275, 3) := dk_180 1 19 (dk_at dksX0_farthest_0 16 rfl rfl)
theorem dX0_farthest_19 : decode cX0_farthest 19 = .ok (.iload_n 2, 1) := dk_28 (dk_at dksX0_farthest_0 19 rfl rfl)
theorem dX0_farthest_20 : decode cX0_farthest 20 = .ok (.laload, 1) := dk_47 (dk_at dksX0_farthest_0 20 rfl rfl)
theorem dX0_farthest_21 : decode cX0_farthest 21 = .ok (.iload_n 1, 1) := dk_27 (dk_at dksX0_farthest_0 21 rfl rfl)
theorem dX0_farthest_22 : decode cX0_farthest 22 = .ok (.i2l, 1) := dk_133 (dk_at dksX0_farthest_0 22 rfl rfl)
theorem dX0_farthest_23 : decode cX0_farthest 23 = .ok (.invokestatic 213, 3) := dk_184 0 213 (dk_at dksX0_farthest_1 0 rfl rfl)
theorem dX0_farthest_26 : decode cX0_farthest 26 = .ok (.invokestatic 217, 3) := dk_184 0 217 (dk_at dksX0_farthest_1 3 rfl rfl)
theorem dX0_farthest_29 : decode cX0_farthest 29 = .ok (.ifCond .ne 5, 3) := dk_154 0 5 (dk_at dksX0_farthest_1 6 rfl rfl)
theorem dX0_farthest_32 : decode cX0_farthest 32 = .ok (.iconst (-1), 1) := dk_2 (dk_at dksX0_farthest_1 9 rfl rfl)
theorem dX0_farthest_33 : decode cX0_farthest 33 = .ok (.ireturn, 1) := dk_172 (dk_at dksX0_farthest_1 10 rfl rfl)
theorem dX0_farthest_34 : decode cX0_farthest 34 = .ok (.aload_n 0, 1) := dk_42 (dk_at dksX0_farthest_1 11 rfl rfl)
theorem dX0_farthest_35 : decode cX0_farthest 35 = .ok (.getfield 75, 3) := dk_180 0 75 (dk_at dksX0_farthest_1 12 rfl rfl)
theorem dX0_farthest_38 : decode cX0_farthest 38 = .ok (.iload_n 1, 1) := dk_27 (dk_at dksX0_farthest_1 15 rfl rfl)
theorem dX0_farthest_39 : decode cX0_farthest 39 = .ok (.i2l, 1) := dk_133 (dk_at dksX0_farthest_1 16 rfl rfl)
theorem dX0_farthest_40 : decode cX0_farthest 40 = .ok (.invokestatic 213, 3) := dk_184 0 213 (dk_at dksX0_farthest_1 17 rfl rfl)
theorem dX0_farthest_43 : decode cX0_farthest 43 = .ok (.iload_n 2, 1) := dk_28 (dk_at dksX0_farthest_1 20 rfl rfl)
theorem dX0_farthest_44 : decode cX0_farthest 44 = .ok (.invokevirtual 293, 3) := dk_182 1 37 (dk_at dksX0_farthest_1 21 rfl rfl)
theorem dX0_farthest_47 : decode cX0_farthest 47 = .ok (.pop, 1) := dk_87 (dk_at dksX0_farthest_2 0 rfl rfl)
theorem dX0_farthest_48 : decode cX0_farthest 48 = .ok (.iload_n 1, 1) := dk_27 (dk_at dksX0_farthest_2 1 rfl rfl)
theorem dX0_farthest_49 : decode cX0_farthest 49 = .ok (.i2l, 1) := dk_133 (dk_at dksX0_farthest_2 2 rfl rfl)
theorem dX0_farthest_50 : decode cX0_farthest 50 = .ok (.invokestatic 213, 3) := dk_184 0 213 (dk_at dksX0_farthest_2 3 rfl rfl)
theorem dX0_farthest_53 : decode cX0_farthest 53 = .ok (.istore_n 3, 1) := dk_62 (dk_at dksX0_farthest_2 6 rfl rfl)
theorem dX0_farthest_54 : decode cX0_farthest 54 = .ok (.iconst 0, 1) := dk_3 (dk_at dksX0_farthest_2 7 rfl rfl)
theorem dX0_farthest_55 : decode cX0_farthest 55 = .ok (.istore 4, 2) := dk_54 4 (dk_at dksX0_farthest_2 8 rfl rfl)
theorem dX0_farthest_57 : decode cX0_farthest 57 = .ok (.iload 4, 2) := dk_21 4 (dk_at dksX0_farthest_2 10 rfl rfl)
theorem dX0_farthest_59 : decode cX0_farthest 59 = .ok (.bipush 64, 2) := dk_16 64 (dk_at dksX0_farthest_2 12 rfl rfl)
theorem dX0_farthest_61 : decode cX0_farthest 61 = .ok (.if_icmp .ge 62, 3) := dk_162 0 62 (dk_at dksX0_farthest_2 14 rfl rfl)
theorem dX0_farthest_64 : decode cX0_farthest 64 = .ok (.aload_n 0, 1) := dk_42 (dk_at dksX0_farthest_2 17 rfl rfl)
theorem dX0_farthest_65 : decode cX0_farthest 65 = .ok (.getfield 75, 3) := dk_180 0 75 (dk_at dksX0_farthest_2 18 rfl rfl)
theorem dX0_farthest_68 : decode cX0_farthest 68 = .ok (.getfield 263, 3) := dk_180 1 7 (dk_at dksX0_farthest_2 21 rfl rfl)
theorem dX0_farthest_71 : decode cX0_farthest 71 = .ok (.iload 4, 2) := dk_21 4 (dk_at dksX0_farthest_3 0 rfl rfl)
theorem dX0_farthest_73 : decode cX0_farthest 73 = .ok (.iaload, 1) := dk_46 (dk_at dksX0_farthest_3 2 rfl rfl)
theorem dX0_farthest_74 : decode cX0_farthest 74 = .ok (.aload_n 0, 1) := dk_42 (dk_at dksX0_farthest_3 3 rfl rfl)
theorem dX0_farthest_75 : decode cX0_farthest 75 = .ok (.getfield 75, 3) := dk_180 0 75 (dk_at dksX0_farthest_3 4 rfl rfl)
theorem dX0_farthest_78 : decode cX0_farthest 78 = .ok (.getfield 263, 3) := dk_180 1 7 (dk_at dksX0_farthest_3 7 rfl rfl)
theorem dX0_farthest_81 : decode cX0_farthest 81 = .ok (.iload_n 3, 1) := dk_29 (dk_at dksX0_farthest_3 10 rfl rfl)
theorem dX0_farthest_82 : decode cX0_farthest 82 = .ok (.iaload, 1) := dk_46 (dk_at dksX0_farthest_3 11 rfl rfl)
theorem dX0_farthest_83 : decode cX0_farthest 83 = .ok (.if_icmp .gt 31, 3) := dk_163 0 31 (dk_at dksX0_farthest_3 12 rfl rfl)
theorem dX0_farthest_86 : decode cX0_farthest 86 = .ok (.aload_n 0, 1) := dk_42 (dk_at dksX0_farthest_3 15 rfl rfl)
theorem dX0_farthest_87 : decode cX0_farthest 87 = .ok (.getfield 75, 3) := dk_180 0 75 (dk_at dksX0_farthest_3 16 rfl rfl)
theorem dX0_farthest_90 : decode cX0_farthest 90 = .ok (.getfield 263, 3) := dk_180 1 7 (dk_at dksX0_farthest_3 19 rfl rfl)
theorem dX0_farthest_93 : decode cX0_farthest 93 = .ok (.iload 4, 2) := dk_21 4 (dk_at dksX0_farthest_3 22 rfl rfl)
theorem dX0_farthest_95 : decode cX0_farthest 95 = .ok (.iaload, 1) := dk_46 (dk_at dksX0_farthest_4 0 rfl rfl)
theorem dX0_farthest_96 : decode cX0_farthest 96 = .ok (.aload_n 0, 1) := dk_42 (dk_at dksX0_farthest_4 1 rfl rfl)
theorem dX0_farthest_97 : decode cX0_farthest 97 = .ok (.getfield 75, 3) := dk_180 0 75 (dk_at dksX0_farthest_4 2 rfl rfl)
theorem dX0_farthest_100 : decode cX0_farthest 100 = .ok (.getfield 263, 3) := dk_180 1 7 (dk_at dksX0_farthest_4 5 rfl rfl)
theorem dX0_farthest_103 : decode cX0_farthest 103 = .ok (.iload_n 3, 1) := dk_29 (dk_at dksX0_farthest_4 8 rfl rfl)
theorem dX0_farthest_104 : decode cX0_farthest 104 = .ok (.iaload, 1) := dk_46 (dk_at dksX0_farthest_4 9 rfl rfl)
theorem dX0_farthest_105 : decode cX0_farthest 105 = .ok (.if_icmp .ne 12, 3) := dk_160 0 12 (dk_at dksX0_farthest_4 10 rfl rfl)
theorem dX0_farthest_108 : decode cX0_farthest 108 = .ok (.iload 4, 2) := dk_21 4 (dk_at dksX0_farthest_4 13 rfl rfl)
theorem dX0_farthest_110 : decode cX0_farthest 110 = .ok (.iload_n 3, 1) := dk_29 (dk_at dksX0_farthest_4 15 rfl rfl)
theorem dX0_farthest_111 : decode cX0_farthest 111 = .ok (.if_icmp .ge 6, 3) := dk_162 0 6 (dk_at dksX0_farthest_4 16 rfl rfl)
theorem dX0_farthest_114 : decode cX0_farthest 114 = .ok (.iload 4, 2) := dk_21 4 (dk_at dksX0_farthest_4 19 rfl rfl)
theorem dX0_farthest_116 : decode cX0_farthest 116 = .ok (.istore_n 3, 1) := dk_62 (dk_at dksX0_farthest_4 21 rfl rfl)
theorem dX0_farthest_117 : decode cX0_farthest 117 = .ok (.iinc 4 1, 3) := dk_132 4 1 (dk_at dksX0_farthest_5 0 rfl rfl)
theorem dX0_farthest_120 : decode cX0_farthest 120 = .ok (.goto (-63), 3) := dk_167 255 193 (dk_at dksX0_farthest_5 3 rfl rfl)
theorem dX0_farthest_123 : decode cX0_farthest 123 = .ok (.iload_n 3, 1) := dk_29 (dk_at dksX0_farthest_5 6 rfl rfl)
theorem dX0_farthest_124 : decode cX0_farthest 124 = .ok (.invokestatic 226, 3) := dk_184 0 226 (dk_at dksX0_farthest_5 7 rfl rfl)
theorem dX0_farthest_127 : decode cX0_farthest 127 = .ok (.ireturn, 1) := dk_172 (dk_at dksX0_farthest_5 10 rfl rfl)
abbrev cX0_crossing : ByteArray := prog_1_method_60_code
def yX0_crossing : MethodName := ⟨RX0, "crossing", "()I"⟩
def dkwX0_crossing_2 : List UInt8 := [29, 182, 1, 58, 184, 1, 32, 61, 132, 3, 1, 167, 255, 221, 27, 184, 0, 226, 172]
abbrev dktX0_crossing_2 : List UInt8 := dkwX0_crossing_2 ++ []
def dkwX0_crossing_1 : List UInt8 := [29, 16, 64, 162, 0, 35, 42, 29, 182, 1, 58, 184, 1, 32, 28, 163, 0, 6, 167, 0, 14, 29, 60, 42]
abbrev dktX0_crossing_1 : List UInt8 := dkwX0_crossing_1 ++ dktX0_crossing_2
def dkwX0_crossing_0 : List UInt8 := [42, 180, 0, 47, 182, 0, 98, 154, 0, 6, 16, 254, 172, 42, 182, 0, 194, 87, 2, 60, 3, 61, 3, 62]
abbrev dktX0_crossing_0 : List UInt8 := dkwX0_crossing_0 ++ dktX0_crossing_1
theorem dksX0_crossing_0 : cX0_crossing.data.toList.drop 0 = dktX0_crossing_0 := by decide +kernel
theorem dksX0_crossing_1 : cX0_crossing.data.toList.drop 24 = dktX0_crossing_1 := dk_seg dksX0_crossing_0 24 rfl rfl
theorem dksX0_crossing_2 : cX0_crossing.data.toList.drop 48 = dktX0_crossing_2 := dk_seg dksX0_crossing_1 24 rfl rfl
theorem dX0_crossing_0 : decode cX0_crossing 0 = .ok (.aload_n 0, 1) := dk_42 (dk_at dksX0_crossing_0 0 rfl rfl)
theorem dX0_crossing_1 : decode cX0_crossing 1 = .ok (.getfield 47, 3) := dk_180 0 47 (dk_at dksX0_crossing_0 1 rfl rfl)
theorem dX0_crossing_4 : decode cX0_crossing 4 = .ok (.invokevirtual 98, 3) := dk_182 0 98 (dk_at dksX0_crossing_0 4 rfl rfl)
theorem dX0_crossing_7 : decode cX0_crossing 7 = .ok (.ifCond .ne 6, 3) := dk_154 0 6 (dk_at dksX0_crossing_0 7 rfl rfl)
theorem dX0_crossing_10 : decode cX0_crossing 10 = .ok (.bipush (-2), 2) := dk_16 254 (dk_at dksX0_crossing_0 10 rfl rfl)
theorem dX0_crossing_12 : decode cX0_crossing 12 = .ok (.ireturn, 1) := dk_172 (dk_at dksX0_crossing_0 12 rfl rfl)
theorem dX0_crossing_13 : decode cX0_crossing 13 = .ok (.aload_n 0, 1) := dk_42 (dk_at dksX0_crossing_0 13 rfl rfl)
theorem dX0_crossing_14 : decode cX0_crossing 14 = .ok (.invokevirtual 194, 3) := dk_182 0 194 (dk_at dksX0_crossing_0 14 rfl rfl)
theorem dX0_crossing_17 : decode cX0_crossing 17 = .ok (.pop, 1) := dk_87 (dk_at dksX0_crossing_0 17 rfl rfl)
theorem dX0_crossing_18 : decode cX0_crossing 18 = .ok (.iconst (-1), 1) := dk_2 (dk_at dksX0_crossing_0 18 rfl rfl)
theorem dX0_crossing_19 : decode cX0_crossing 19 = .ok (.istore_n 1, 1) := dk_60 (dk_at dksX0_crossing_0 19 rfl rfl)
theorem dX0_crossing_20 : decode cX0_crossing 20 = .ok (.iconst 0, 1) := dk_3 (dk_at dksX0_crossing_0 20 rfl rfl)
theorem dX0_crossing_21 : decode cX0_crossing 21 = .ok (.istore_n 2, 1) := dk_61 (dk_at dksX0_crossing_0 21 rfl rfl)
theorem dX0_crossing_22 : decode cX0_crossing 22 = .ok (.iconst 0, 1) := dk_3 (dk_at dksX0_crossing_0 22 rfl rfl)
theorem dX0_crossing_23 : decode cX0_crossing 23 = .ok (.istore_n 3, 1) := dk_62 (dk_at dksX0_crossing_0 23 rfl rfl)
theorem dX0_crossing_24 : decode cX0_crossing 24 = .ok (.iload_n 3, 1) := dk_29 (dk_at dksX0_crossing_1 0 rfl rfl)
theorem dX0_crossing_25 : decode cX0_crossing 25 = .ok (.bipush 64, 2) := dk_16 64 (dk_at dksX0_crossing_1 1 rfl rfl)
theorem dX0_crossing_27 : decode cX0_crossing 27 = .ok (.if_icmp .ge 35, 3) := dk_162 0 35 (dk_at dksX0_crossing_1 3 rfl rfl)
theorem dX0_crossing_30 : decode cX0_crossing 30 = .ok (.aload_n 0, 1) := dk_42 (dk_at dksX0_crossing_1 6 rfl rfl)
theorem dX0_crossing_31 : decode cX0_crossing 31 = .ok (.iload_n 3, 1) := dk_29 (dk_at dksX0_crossing_1 7 rfl rfl)
theorem dX0_crossing_32 : decode cX0_crossing 32 = .ok (.invokevirtual 314, 3) := dk_182 1 58 (dk_at dksX0_crossing_1 8 rfl rfl)
theorem dX0_crossing_35 : decode cX0_crossing 35 = .ok (.invokestatic 288, 3) := dk_184 1 32 (dk_at dksX0_crossing_1 11 rfl rfl)
theorem dX0_crossing_38 : decode cX0_crossing 38 = .ok (.iload_n 2, 1) := dk_28 (dk_at dksX0_crossing_1 14 rfl rfl)
theorem dX0_crossing_39 : decode cX0_crossing 39 = .ok (.if_icmp .gt 6, 3) := dk_163 0 6 (dk_at dksX0_crossing_1 15 rfl rfl)
theorem dX0_crossing_42 : decode cX0_crossing 42 = .ok (.goto 14, 3) := dk_167 0 14 (dk_at dksX0_crossing_1 18 rfl rfl)
theorem dX0_crossing_45 : decode cX0_crossing 45 = .ok (.iload_n 3, 1) := dk_29 (dk_at dksX0_crossing_1 21 rfl rfl)
theorem dX0_crossing_46 : decode cX0_crossing 46 = .ok (.istore_n 1, 1) := dk_60 (dk_at dksX0_crossing_1 22 rfl rfl)
theorem dX0_crossing_47 : decode cX0_crossing 47 = .ok (.aload_n 0, 1) := dk_42 (dk_at dksX0_crossing_1 23 rfl rfl)
theorem dX0_crossing_48 : decode cX0_crossing 48 = .ok (.iload_n 3, 1) := dk_29 (dk_at dksX0_crossing_2 0 rfl rfl)
theorem dX0_crossing_49 : decode cX0_crossing 49 = .ok (.invokevirtual 314, 3) := dk_182 1 58 (dk_at dksX0_crossing_2 1 rfl rfl)
theorem dX0_crossing_52 : decode cX0_crossing 52 = .ok (.invokestatic 288, 3) := dk_184 1 32 (dk_at dksX0_crossing_2 4 rfl rfl)
theorem dX0_crossing_55 : decode cX0_crossing 55 = .ok (.istore_n 2, 1) := dk_61 (dk_at dksX0_crossing_2 7 rfl rfl)
theorem dX0_crossing_56 : decode cX0_crossing 56 = .ok (.iinc 3 1, 3) := dk_132 3 1 (dk_at dksX0_crossing_2 8 rfl rfl)
theorem dX0_crossing_59 : decode cX0_crossing 59 = .ok (.goto (-35), 3) := dk_167 255 221 (dk_at dksX0_crossing_2 11 rfl rfl)
theorem dX0_crossing_62 : decode cX0_crossing 62 = .ok (.iload_n 1, 1) := dk_27 (dk_at dksX0_crossing_2 14 rfl rfl)
theorem dX0_crossing_63 : decode cX0_crossing 63 = .ok (.invokestatic 226, 3) := dk_184 0 226 (dk_at dksX0_crossing_2 15 rfl rfl)
theorem dX0_crossing_66 : decode cX0_crossing 66 = .ok (.ireturn, 1) := dk_172 (dk_at dksX0_crossing_2 18 rfl rfl)
abbrev cX0_walkedOf : ByteArray := prog_1_method_59_code
def yX0_walkedOf : MethodName := ⟨RX0, "walkedOf", "(I)I"⟩
def dkwX0_walkedOf_1 : List UInt8 := [184, 0, 217, 153, 0, 9, 4, 29, 120, 167, 0, 4, 3, 128, 61, 132, 3, 1, 167, 255, 219, 28, 172]
abbrev dktX0_walkedOf_1 : List UInt8 := dkwX0_walkedOf_1 ++ []
def dkwX0_walkedOf_0 : List UInt8 := [3, 61, 3, 62, 29, 42, 182, 0, 126, 162, 0, 35, 28, 42, 180, 0, 68, 180, 0, 248, 29, 47, 27]
abbrev dktX0_walkedOf_0 : List UInt8 := dkwX0_walkedOf_0 ++ dktX0_walkedOf_1
theorem dksX0_walkedOf_0 : cX0_walkedOf.data.toList.drop 0 = dktX0_walkedOf_0 := by decide +kernel
theorem dksX0_walkedOf_1 : cX0_walkedOf.data.toList.drop 23 = dktX0_walkedOf_1 := dk_seg dksX0_walkedOf_0 23 rfl rfl
theorem dX0_walkedOf_0 : decode cX0_walkedOf 0 = .ok (.iconst 0, 1) := dk_3 (dk_at dksX0_walkedOf_0 0 rfl rfl)
theorem dX0_walkedOf_1 : decode cX0_walkedOf 1 = .ok (.istore_n 2, 1) := dk_61 (dk_at dksX0_walkedOf_0 1 rfl rfl)
theorem dX0_walkedOf_2 : decode cX0_walkedOf 2 = .ok (.iconst 0, 1) := dk_3 (dk_at dksX0_walkedOf_0 2 rfl rfl)
theorem dX0_walkedOf_3 : decode cX0_walkedOf 3 = .ok (.istore_n 3, 1) := dk_62 (dk_at dksX0_walkedOf_0 3 rfl rfl)
theorem dX0_walkedOf_4 : decode cX0_walkedOf 4 = .ok (.iload_n 3, 1) := dk_29 (dk_at dksX0_walkedOf_0 4 rfl rfl)
theorem dX0_walkedOf_5 : decode cX0_walkedOf 5 = .ok (.aload_n 0, 1) := dk_42 (dk_at dksX0_walkedOf_0 5 rfl rfl)
theorem dX0_walkedOf_6 : decode cX0_walkedOf 6 = .ok (.invokevirtual 126, 3) := dk_182 0 126 (dk_at dksX0_walkedOf_0 6 rfl rfl)
theorem dX0_walkedOf_9 : decode cX0_walkedOf 9 = .ok (.if_icmp .ge 35, 3) := dk_162 0 35 (dk_at dksX0_walkedOf_0 9 rfl rfl)
theorem dX0_walkedOf_12 : decode cX0_walkedOf 12 = .ok (.iload_n 2, 1) := dk_28 (dk_at dksX0_walkedOf_0 12 rfl rfl)
theorem dX0_walkedOf_13 : decode cX0_walkedOf 13 = .ok (.aload_n 0, 1) := dk_42 (dk_at dksX0_walkedOf_0 13 rfl rfl)
theorem dX0_walkedOf_14 : decode cX0_walkedOf 14 = .ok (.getfield 68, 3) := dk_180 0 68 (dk_at dksX0_walkedOf_0 14 rfl rfl)
theorem dX0_walkedOf_17 : decode cX0_walkedOf 17 = .ok (.getfield 248, 3) := dk_180 0 248 (dk_at dksX0_walkedOf_0 17 rfl rfl)
theorem dX0_walkedOf_20 : decode cX0_walkedOf 20 = .ok (.iload_n 3, 1) := dk_29 (dk_at dksX0_walkedOf_0 20 rfl rfl)
theorem dX0_walkedOf_21 : decode cX0_walkedOf 21 = .ok (.laload, 1) := dk_47 (dk_at dksX0_walkedOf_0 21 rfl rfl)
theorem dX0_walkedOf_22 : decode cX0_walkedOf 22 = .ok (.iload_n 1, 1) := dk_27 (dk_at dksX0_walkedOf_0 22 rfl rfl)
theorem dX0_walkedOf_23 : decode cX0_walkedOf 23 = .ok (.invokestatic 217, 3) := dk_184 0 217 (dk_at dksX0_walkedOf_1 0 rfl rfl)
theorem dX0_walkedOf_26 : decode cX0_walkedOf 26 = .ok (.ifCond .eq 9, 3) := dk_153 0 9 (dk_at dksX0_walkedOf_1 3 rfl rfl)
theorem dX0_walkedOf_29 : decode cX0_walkedOf 29 = .ok (.iconst 1, 1) := dk_4 (dk_at dksX0_walkedOf_1 6 rfl rfl)
theorem dX0_walkedOf_30 : decode cX0_walkedOf 30 = .ok (.iload_n 3, 1) := dk_29 (dk_at dksX0_walkedOf_1 7 rfl rfl)
theorem dX0_walkedOf_31 : decode cX0_walkedOf 31 = .ok (.ishl, 1) := dk_120 (dk_at dksX0_walkedOf_1 8 rfl rfl)
theorem dX0_walkedOf_32 : decode cX0_walkedOf 32 = .ok (.goto 4, 3) := dk_167 0 4 (dk_at dksX0_walkedOf_1 9 rfl rfl)
theorem dX0_walkedOf_35 : decode cX0_walkedOf 35 = .ok (.iconst 0, 1) := dk_3 (dk_at dksX0_walkedOf_1 12 rfl rfl)
theorem dX0_walkedOf_36 : decode cX0_walkedOf 36 = .ok (.ior, 1) := dk_128 (dk_at dksX0_walkedOf_1 13 rfl rfl)
theorem dX0_walkedOf_37 : decode cX0_walkedOf 37 = .ok (.istore_n 2, 1) := dk_61 (dk_at dksX0_walkedOf_1 14 rfl rfl)
theorem dX0_walkedOf_38 : decode cX0_walkedOf 38 = .ok (.iinc 3 1, 3) := dk_132 3 1 (dk_at dksX0_walkedOf_1 15 rfl rfl)
theorem dX0_walkedOf_41 : decode cX0_walkedOf 41 = .ok (.goto (-37), 3) := dk_167 255 219 (dk_at dksX0_walkedOf_1 18 rfl rfl)
theorem dX0_walkedOf_44 : decode cX0_walkedOf 44 = .ok (.iload_n 2, 1) := dk_28 (dk_at dksX0_walkedOf_1 21 rfl rfl)
theorem dX0_walkedOf_45 : decode cX0_walkedOf 45 = .ok (.ireturn, 1) := dk_172 (dk_at dksX0_walkedOf_1 22 rfl rfl)
abbrev cX0_shared : ByteArray := prog_1_method_61_code
def yX0_shared : MethodName := ⟨RX0, "shared", "(II)I"⟩
def dkwX0_shared_1 : List UInt8 := [180, 0, 248, 27, 47, 42, 180, 0, 68, 180, 0, 248, 28, 47, 127, 184, 0, 252, 167, 0, 5, 16, 254, 172]
abbrev dktX0_shared_1 : List UInt8 := dkwX0_shared_1 ++ []
def dkwX0_shared_0 : List UInt8 := [42, 27, 133, 182, 0, 138, 153, 0, 37, 42, 28, 133, 182, 0, 138, 153, 0, 28, 42, 182, 0, 194]
abbrev dktX0_shared_0 : List UInt8 := dkwX0_shared_0 ++ dktX0_shared_1
theorem dksX0_shared_0 : cX0_shared.data.toList.drop 0 = dktX0_shared_0 := by decide +kernel
theorem dksX0_shared_1 : cX0_shared.data.toList.drop 22 = dktX0_shared_1 := dk_seg dksX0_shared_0 22 rfl rfl
theorem dX0_shared_0 : decode cX0_shared 0 = .ok (.aload_n 0, 1) := dk_42 (dk_at dksX0_shared_0 0 rfl rfl)
theorem dX0_shared_1 : decode cX0_shared 1 = .ok (.iload_n 1, 1) := dk_27 (dk_at dksX0_shared_0 1 rfl rfl)
theorem dX0_shared_2 : decode cX0_shared 2 = .ok (.i2l, 1) := dk_133 (dk_at dksX0_shared_0 2 rfl rfl)
theorem dX0_shared_3 : decode cX0_shared 3 = .ok (.invokevirtual 138, 3) := dk_182 0 138 (dk_at dksX0_shared_0 3 rfl rfl)
theorem dX0_shared_6 : decode cX0_shared 6 = .ok (.ifCond .eq 37, 3) := dk_153 0 37 (dk_at dksX0_shared_0 6 rfl rfl)
theorem dX0_shared_9 : decode cX0_shared 9 = .ok (.aload_n 0, 1) := dk_42 (dk_at dksX0_shared_0 9 rfl rfl)
theorem dX0_shared_10 : decode cX0_shared 10 = .ok (.iload_n 2, 1) := dk_28 (dk_at dksX0_shared_0 10 rfl rfl)
theorem dX0_shared_11 : decode cX0_shared 11 = .ok (.i2l, 1) := dk_133 (dk_at dksX0_shared_0 11 rfl rfl)
theorem dX0_shared_12 : decode cX0_shared 12 = .ok (.invokevirtual 138, 3) := dk_182 0 138 (dk_at dksX0_shared_0 12 rfl rfl)
theorem dX0_shared_15 : decode cX0_shared 15 = .ok (.ifCond .eq 28, 3) := dk_153 0 28 (dk_at dksX0_shared_0 15 rfl rfl)
theorem dX0_shared_18 : decode cX0_shared 18 = .ok (.aload_n 0, 1) := dk_42 (dk_at dksX0_shared_0 18 rfl rfl)
theorem dX0_shared_19 : decode cX0_shared 19 = .ok (.invokevirtual 194, 3) := dk_182 0 194 (dk_at dksX0_shared_0 19 rfl rfl)
theorem dX0_shared_22 : decode cX0_shared 22 = .ok (.getfield 248, 3) := dk_180 0 248 (dk_at dksX0_shared_1 0 rfl rfl)
theorem dX0_shared_25 : decode cX0_shared 25 = .ok (.iload_n 1, 1) := dk_27 (dk_at dksX0_shared_1 3 rfl rfl)
theorem dX0_shared_26 : decode cX0_shared 26 = .ok (.laload, 1) := dk_47 (dk_at dksX0_shared_1 4 rfl rfl)
theorem dX0_shared_27 : decode cX0_shared 27 = .ok (.aload_n 0, 1) := dk_42 (dk_at dksX0_shared_1 5 rfl rfl)
theorem dX0_shared_28 : decode cX0_shared 28 = .ok (.getfield 68, 3) := dk_180 0 68 (dk_at dksX0_shared_1 6 rfl rfl)
theorem dX0_shared_31 : decode cX0_shared 31 = .ok (.getfield 248, 3) := dk_180 0 248 (dk_at dksX0_shared_1 9 rfl rfl)
theorem dX0_shared_34 : decode cX0_shared 34 = .ok (.iload_n 2, 1) := dk_28 (dk_at dksX0_shared_1 12 rfl rfl)
theorem dX0_shared_35 : decode cX0_shared 35 = .ok (.laload, 1) := dk_47 (dk_at dksX0_shared_1 13 rfl rfl)
theorem dX0_shared_36 : decode cX0_shared 36 = .ok (.land, 1) := dk_127 (dk_at dksX0_shared_1 14 rfl rfl)
theorem dX0_shared_37 : decode cX0_shared 37 = .ok (.invokestatic 252, 3) := dk_184 0 252 (dk_at dksX0_shared_1 15 rfl rfl)
theorem dX0_shared_40 : decode cX0_shared 40 = .ok (.goto 5, 3) := dk_167 0 5 (dk_at dksX0_shared_1 18 rfl rfl)
theorem dX0_shared_43 : decode cX0_shared 43 = .ok (.bipush (-2), 2) := dk_16 254 (dk_at dksX0_shared_1 21 rfl rfl)
theorem dX0_shared_45 : decode cX0_shared 45 = .ok (.ireturn, 1) := dk_172 (dk_at dksX0_shared_1 23 rfl rfl)
abbrev cX0_walked : ByteArray := prog_1_method_62_code
def yX0_walked : MethodName := ⟨RX0, "walked", "(I)I"⟩
def dkwX0_walked_1 : List UInt8 := [182, 1, 58, 172]
abbrev dktX0_walked_1 : List UInt8 := dkwX0_walked_1 ++ []
def dkwX0_walked_0 : List UInt8 := [42, 27, 133, 182, 0, 206, 154, 0, 6, 16, 254, 172, 42, 182, 0, 194, 87, 42, 27, 133, 184, 0, 213]
abbrev dktX0_walked_0 : List UInt8 := dkwX0_walked_0 ++ dktX0_walked_1
theorem dksX0_walked_0 : cX0_walked.data.toList.drop 0 = dktX0_walked_0 := by decide +kernel
theorem dksX0_walked_1 : cX0_walked.data.toList.drop 23 = dktX0_walked_1 := dk_seg dksX0_walked_0 23 rfl rfl
theorem dX0_walked_0 : decode cX0_walked 0 = .ok (.aload_n 0, 1) := dk_42 (dk_at dksX0_walked_0 0 rfl rfl)
theorem dX0_walked_1 : decode cX0_walked 1 = .ok (.iload_n 1, 1) := dk_27 (dk_at dksX0_walked_0 1 rfl rfl)
theorem dX0_walked_2 : decode cX0_walked 2 = .ok (.i2l, 1) := dk_133 (dk_at dksX0_walked_0 2 rfl rfl)
theorem dX0_walked_3 : decode cX0_walked 3 = .ok (.invokevirtual 206, 3) := dk_182 0 206 (dk_at dksX0_walked_0 3 rfl rfl)
theorem dX0_walked_6 : decode cX0_walked 6 = .ok (.ifCond .ne 6, 3) := dk_154 0 6 (dk_at dksX0_walked_0 6 rfl rfl)
theorem dX0_walked_9 : decode cX0_walked 9 = .ok (.bipush (-2), 2) := dk_16 254 (dk_at dksX0_walked_0 9 rfl rfl)
theorem dX0_walked_11 : decode cX0_walked 11 = .ok (.ireturn, 1) := dk_172 (dk_at dksX0_walked_0 11 rfl rfl)
theorem dX0_walked_12 : decode cX0_walked 12 = .ok (.aload_n 0, 1) := dk_42 (dk_at dksX0_walked_0 12 rfl rfl)
theorem dX0_walked_13 : decode cX0_walked 13 = .ok (.invokevirtual 194, 3) := dk_182 0 194 (dk_at dksX0_walked_0 13 rfl rfl)
theorem dX0_walked_16 : decode cX0_walked 16 = .ok (.pop, 1) := dk_87 (dk_at dksX0_walked_0 16 rfl rfl)
theorem dX0_walked_17 : decode cX0_walked 17 = .ok (.aload_n 0, 1) := dk_42 (dk_at dksX0_walked_0 17 rfl rfl)
theorem dX0_walked_18 : decode cX0_walked 18 = .ok (.iload_n 1, 1) := dk_27 (dk_at dksX0_walked_0 18 rfl rfl)
theorem dX0_walked_19 : decode cX0_walked 19 = .ok (.i2l, 1) := dk_133 (dk_at dksX0_walked_0 19 rfl rfl)
theorem dX0_walked_20 : decode cX0_walked 20 = .ok (.invokestatic 213, 3) := dk_184 0 213 (dk_at dksX0_walked_0 20 rfl rfl)
theorem dX0_walked_23 : decode cX0_walked 23 = .ok (.invokevirtual 314, 3) := dk_182 1 58 (dk_at dksX0_walked_1 0 rfl rfl)
theorem dX0_walked_26 : decode cX0_walked 26 = .ok (.ireturn, 1) := dk_172 (dk_at dksX0_walked_1 3 rfl rfl)
abbrev cX0_first : ByteArray := prog_1_method_63_code
def yX0_first : MethodName := ⟨RX0, "first", "(I)I"⟩
def dkwX0_first_2 : List UInt8 := [153, 0, 5, 28, 172, 132, 2, 1, 167, 255, 220, 2, 172]
abbrev dktX0_first_2 : List UInt8 := dkwX0_first_2 ++ []
def dkwX0_first_1 : List UInt8 := [180, 0, 142, 163, 0, 31, 42, 180, 0, 68, 180, 1, 19, 28, 47, 27, 133, 184, 0, 213, 184, 0, 217]
abbrev dktX0_first_1 : List UInt8 := dkwX0_first_1 ++ dktX0_first_2
def dkwX0_first_0 : List UInt8 := [42, 27, 133, 182, 0, 206, 154, 0, 6, 16, 254, 172, 42, 182, 0, 194, 87, 3, 61, 28, 42, 180, 0, 47]
abbrev dktX0_first_0 : List UInt8 := dkwX0_first_0 ++ dktX0_first_1
theorem dksX0_first_0 : cX0_first.data.toList.drop 0 = dktX0_first_0 := by decide +kernel
theorem dksX0_first_1 : cX0_first.data.toList.drop 24 = dktX0_first_1 := dk_seg dksX0_first_0 24 rfl rfl
theorem dksX0_first_2 : cX0_first.data.toList.drop 47 = dktX0_first_2 := dk_seg dksX0_first_1 23 rfl rfl
theorem dX0_first_0 : decode cX0_first 0 = .ok (.aload_n 0, 1) := dk_42 (dk_at dksX0_first_0 0 rfl rfl)
theorem dX0_first_1 : decode cX0_first 1 = .ok (.iload_n 1, 1) := dk_27 (dk_at dksX0_first_0 1 rfl rfl)
theorem dX0_first_2 : decode cX0_first 2 = .ok (.i2l, 1) := dk_133 (dk_at dksX0_first_0 2 rfl rfl)
theorem dX0_first_3 : decode cX0_first 3 = .ok (.invokevirtual 206, 3) := dk_182 0 206 (dk_at dksX0_first_0 3 rfl rfl)
theorem dX0_first_6 : decode cX0_first 6 = .ok (.ifCond .ne 6, 3) := dk_154 0 6 (dk_at dksX0_first_0 6 rfl rfl)
theorem dX0_first_9 : decode cX0_first 9 = .ok (.bipush (-2), 2) := dk_16 254 (dk_at dksX0_first_0 9 rfl rfl)
theorem dX0_first_11 : decode cX0_first 11 = .ok (.ireturn, 1) := dk_172 (dk_at dksX0_first_0 11 rfl rfl)
theorem dX0_first_12 : decode cX0_first 12 = .ok (.aload_n 0, 1) := dk_42 (dk_at dksX0_first_0 12 rfl rfl)
theorem dX0_first_13 : decode cX0_first 13 = .ok (.invokevirtual 194, 3) := dk_182 0 194 (dk_at dksX0_first_0 13 rfl rfl)
theorem dX0_first_16 : decode cX0_first 16 = .ok (.pop, 1) := dk_87 (dk_at dksX0_first_0 16 rfl rfl)
theorem dX0_first_17 : decode cX0_first 17 = .ok (.iconst 0, 1) := dk_3 (dk_at dksX0_first_0 17 rfl rfl)
theorem dX0_first_18 : decode cX0_first 18 = .ok (.istore_n 2, 1) := dk_61 (dk_at dksX0_first_0 18 rfl rfl)
theorem dX0_first_19 : decode cX0_first 19 = .ok (.iload_n 2, 1) := dk_28 (dk_at dksX0_first_0 19 rfl rfl)
theorem dX0_first_20 : decode cX0_first 20 = .ok (.aload_n 0, 1) := dk_42 (dk_at dksX0_first_0 20 rfl rfl)
theorem dX0_first_21 : decode cX0_first 21 = .ok (.getfield 47, 3) := dk_180 0 47 (dk_at dksX0_first_0 21 rfl rfl)
theorem dX0_first_24 : decode cX0_first 24 = .ok (.getfield 142, 3) := dk_180 0 142 (dk_at dksX0_first_1 0 rfl rfl)
theorem dX0_first_27 : decode cX0_first 27 = .ok (.if_icmp .gt 31, 3) := dk_163 0 31 (dk_at dksX0_first_1 3 rfl rfl)
theorem dX0_first_30 : decode cX0_first 30 = .ok (.aload_n 0, 1) := dk_42 (dk_at dksX0_first_1 6 rfl rfl)
theorem dX0_first_31 : decode cX0_first 31 = .ok (.getfield 68, 3) := dk_180 0 68 (dk_at dksX0_first_1 7 rfl rfl)
theorem dX0_first_34 : decode cX0_first 34 = .ok (.getfield 275, 3) := dk_180 1 19 (dk_at dksX0_first_1 10 rfl rfl)
theorem dX0_first_37 : decode cX0_first 37 = .ok (.iload_n 2, 1) := dk_28 (dk_at dksX0_first_1 13 rfl rfl)
theorem dX0_first_38 : decode cX0_first 38 = .ok (.laload, 1) := dk_47 (dk_at dksX0_first_1 14 rfl rfl)
theorem dX0_first_39 : decode cX0_first 39 = .ok (.iload_n 1, 1) := dk_27 (dk_at dksX0_first_1 15 rfl rfl)
theorem dX0_first_40 : decode cX0_first 40 = .ok (.i2l, 1) := dk_133 (dk_at dksX0_first_1 16 rfl rfl)
theorem dX0_first_41 : decode cX0_first 41 = .ok (.invokestatic 213, 3) := dk_184 0 213 (dk_at dksX0_first_1 17 rfl rfl)
theorem dX0_first_44 : decode cX0_first 44 = .ok (.invokestatic 217, 3) := dk_184 0 217 (dk_at dksX0_first_1 20 rfl rfl)
theorem dX0_first_47 : decode cX0_first 47 = .ok (.ifCond .eq 5, 3) := dk_153 0 5 (dk_at dksX0_first_2 0 rfl rfl)
theorem dX0_first_50 : decode cX0_first 50 = .ok (.iload_n 2, 1) := dk_28 (dk_at dksX0_first_2 3 rfl rfl)
theorem dX0_first_51 : decode cX0_first 51 = .ok (.ireturn, 1) := dk_172 (dk_at dksX0_first_2 4 rfl rfl)
theorem dX0_first_52 : decode cX0_first 52 = .ok (.iinc 2 1, 3) := dk_132 2 1 (dk_at dksX0_first_2 5 rfl rfl)
theorem dX0_first_55 : decode cX0_first 55 = .ok (.goto (-36), 3) := dk_167 255 220 (dk_at dksX0_first_2 8 rfl rfl)
theorem dX0_first_58 : decode cX0_first 58 = .ok (.iconst (-1), 1) := dk_2 (dk_at dksX0_first_2 11 rfl rfl)
theorem dX0_first_59 : decode cX0_first 59 = .ok (.ireturn, 1) := dk_172 (dk_at dksX0_first_2 12 rfl rfl)
abbrev cX0_line : ByteArray := prog_1_method_64_code
def yX0_line : MethodName := ⟨RX0, "line", "(I)I"⟩
def dkwX0_line_3 : List UInt8 := [167, 255, 228, 28, 21, 5, 184, 1, 61, 61, 132, 4, 1, 167, 255, 203, 132, 3, 1, 167, 255, 188, 28, 172]
abbrev dktX0_line_3 : List UInt8 := dkwX0_line_3 ++ []
def dkwX0_line_2 : List UInt8 := [21, 4, 27, 182, 1, 25, 153, 0, 19, 132, 5, 1, 42, 21, 6, 21, 4, 182, 1, 55, 54, 6]
abbrev dktX0_line_2 : List UInt8 := dkwX0_line_2 ++ dktX0_line_3
def dkwX0_line_1 : List UInt8 := [162, 0, 68, 4, 54, 4, 21, 4, 6, 162, 0, 53, 3, 54, 5, 29, 54, 6, 42, 180, 0, 68, 21, 6]
abbrev dktX0_line_1 : List UInt8 := dkwX0_line_1 ++ dktX0_line_2
def dkwX0_line_0 : List UInt8 := [42, 27, 182, 1, 13, 154, 0, 6, 16, 254, 172, 42, 182, 0, 194, 87, 3, 61, 3, 62, 29, 16, 64]
abbrev dktX0_line_0 : List UInt8 := dkwX0_line_0 ++ dktX0_line_1
theorem dksX0_line_0 : cX0_line.data.toList.drop 0 = dktX0_line_0 := by decide +kernel
theorem dksX0_line_1 : cX0_line.data.toList.drop 23 = dktX0_line_1 := dk_seg dksX0_line_0 23 rfl rfl
theorem dksX0_line_2 : cX0_line.data.toList.drop 47 = dktX0_line_2 := dk_seg dksX0_line_1 24 rfl rfl
theorem dksX0_line_3 : cX0_line.data.toList.drop 69 = dktX0_line_3 := dk_seg dksX0_line_2 22 rfl rfl
theorem dX0_line_0 : decode cX0_line 0 = .ok (.aload_n 0, 1) := dk_42 (dk_at dksX0_line_0 0 rfl rfl)
theorem dX0_line_1 : decode cX0_line 1 = .ok (.iload_n 1, 1) := dk_27 (dk_at dksX0_line_0 1 rfl rfl)
theorem dX0_line_2 : decode cX0_line 2 = .ok (.invokevirtual 269, 3) := dk_182 1 13 (dk_at dksX0_line_0 2 rfl rfl)
theorem dX0_line_5 : decode cX0_line 5 = .ok (.ifCond .ne 6, 3) := dk_154 0 6 (dk_at dksX0_line_0 5 rfl rfl)
theorem dX0_line_8 : decode cX0_line 8 = .ok (.bipush (-2), 2) := dk_16 254 (dk_at dksX0_line_0 8 rfl rfl)
theorem dX0_line_10 : decode cX0_line 10 = .ok (.ireturn, 1) := dk_172 (dk_at dksX0_line_0 10 rfl rfl)
theorem dX0_line_11 : decode cX0_line 11 = .ok (.aload_n 0, 1) := dk_42 (dk_at dksX0_line_0 11 rfl rfl)
theorem dX0_line_12 : decode cX0_line 12 = .ok (.invokevirtual 194, 3) := dk_182 0 194 (dk_at dksX0_line_0 12 rfl rfl)
theorem dX0_line_15 : decode cX0_line 15 = .ok (.pop, 1) := dk_87 (dk_at dksX0_line_0 15 rfl rfl)
theorem dX0_line_16 : decode cX0_line 16 = .ok (.iconst 0, 1) := dk_3 (dk_at dksX0_line_0 16 rfl rfl)
theorem dX0_line_17 : decode cX0_line 17 = .ok (.istore_n 2, 1) := dk_61 (dk_at dksX0_line_0 17 rfl rfl)
theorem dX0_line_18 : decode cX0_line 18 = .ok (.iconst 0, 1) := dk_3 (dk_at dksX0_line_0 18 rfl rfl)
theorem dX0_line_19 : decode cX0_line 19 = .ok (.istore_n 3, 1) := dk_62 (dk_at dksX0_line_0 19 rfl rfl)
theorem dX0_line_20 : decode cX0_line 20 = .ok (.iload_n 3, 1) := dk_29 (dk_at dksX0_line_0 20 rfl rfl)
theorem dX0_line_21 : decode cX0_line 21 = .ok (.bipush 64, 2) := dk_16 64 (dk_at dksX0_line_0 21 rfl rfl)
theorem dX0_line_23 : decode cX0_line 23 = .ok (.if_icmp .ge 68, 3) := dk_162 0 68 (dk_at dksX0_line_1 0 rfl rfl)
theorem dX0_line_26 : decode cX0_line 26 = .ok (.iconst 1, 1) := dk_4 (dk_at dksX0_line_1 3 rfl rfl)
theorem dX0_line_27 : decode cX0_line 27 = .ok (.istore 4, 2) := dk_54 4 (dk_at dksX0_line_1 4 rfl rfl)
theorem dX0_line_29 : decode cX0_line 29 = .ok (.iload 4, 2) := dk_21 4 (dk_at dksX0_line_1 6 rfl rfl)
theorem dX0_line_31 : decode cX0_line 31 = .ok (.iconst 3, 1) := dk_6 (dk_at dksX0_line_1 8 rfl rfl)
theorem dX0_line_32 : decode cX0_line 32 = .ok (.if_icmp .ge 53, 3) := dk_162 0 53 (dk_at dksX0_line_1 9 rfl rfl)
theorem dX0_line_35 : decode cX0_line 35 = .ok (.iconst 0, 1) := dk_3 (dk_at dksX0_line_1 12 rfl rfl)
theorem dX0_line_36 : decode cX0_line 36 = .ok (.istore 5, 2) := dk_54 5 (dk_at dksX0_line_1 13 rfl rfl)
theorem dX0_line_38 : decode cX0_line 38 = .ok (.iload_n 3, 1) := dk_29 (dk_at dksX0_line_1 15 rfl rfl)
theorem dX0_line_39 : decode cX0_line 39 = .ok (.istore 6, 2) := dk_54 6 (dk_at dksX0_line_1 16 rfl rfl)
theorem dX0_line_41 : decode cX0_line 41 = .ok (.aload_n 0, 1) := dk_42 (dk_at dksX0_line_1 18 rfl rfl)
theorem dX0_line_42 : decode cX0_line 42 = .ok (.getfield 68, 3) := dk_180 0 68 (dk_at dksX0_line_1 19 rfl rfl)
theorem dX0_line_45 : decode cX0_line 45 = .ok (.iload 6, 2) := dk_21 6 (dk_at dksX0_line_1 22 rfl rfl)
theorem dX0_line_47 : decode cX0_line 47 = .ok (.iload 4, 2) := dk_21 4 (dk_at dksX0_line_2 0 rfl rfl)
theorem dX0_line_49 : decode cX0_line 49 = .ok (.iload_n 1, 1) := dk_27 (dk_at dksX0_line_2 2 rfl rfl)
theorem dX0_line_50 : decode cX0_line 50 = .ok (.invokevirtual 281, 3) := dk_182 1 25 (dk_at dksX0_line_2 3 rfl rfl)
theorem dX0_line_53 : decode cX0_line 53 = .ok (.ifCond .eq 19, 3) := dk_153 0 19 (dk_at dksX0_line_2 6 rfl rfl)
theorem dX0_line_56 : decode cX0_line 56 = .ok (.iinc 5 1, 3) := dk_132 5 1 (dk_at dksX0_line_2 9 rfl rfl)
theorem dX0_line_59 : decode cX0_line 59 = .ok (.aload_n 0, 1) := dk_42 (dk_at dksX0_line_2 12 rfl rfl)
theorem dX0_line_60 : decode cX0_line 60 = .ok (.iload 6, 2) := dk_21 6 (dk_at dksX0_line_2 13 rfl rfl)
theorem dX0_line_62 : decode cX0_line 62 = .ok (.iload 4, 2) := dk_21 4 (dk_at dksX0_line_2 15 rfl rfl)
theorem dX0_line_64 : decode cX0_line 64 = .ok (.invokevirtual 311, 3) := dk_182 1 55 (dk_at dksX0_line_2 17 rfl rfl)
theorem dX0_line_67 : decode cX0_line 67 = .ok (.istore 6, 2) := dk_54 6 (dk_at dksX0_line_2 20 rfl rfl)
theorem dX0_line_69 : decode cX0_line 69 = .ok (.goto (-28), 3) := dk_167 255 228 (dk_at dksX0_line_3 0 rfl rfl)
theorem dX0_line_72 : decode cX0_line 72 = .ok (.iload_n 2, 1) := dk_28 (dk_at dksX0_line_3 3 rfl rfl)
theorem dX0_line_73 : decode cX0_line 73 = .ok (.iload 5, 2) := dk_21 5 (dk_at dksX0_line_3 4 rfl rfl)
theorem dX0_line_75 : decode cX0_line 75 = .ok (.invokestatic 317, 3) := dk_184 1 61 (dk_at dksX0_line_3 6 rfl rfl)
theorem dX0_line_78 : decode cX0_line 78 = .ok (.istore_n 2, 1) := dk_61 (dk_at dksX0_line_3 9 rfl rfl)
theorem dX0_line_79 : decode cX0_line 79 = .ok (.iinc 4 1, 3) := dk_132 4 1 (dk_at dksX0_line_3 10 rfl rfl)
theorem dX0_line_82 : decode cX0_line 82 = .ok (.goto (-53), 3) := dk_167 255 203 (dk_at dksX0_line_3 13 rfl rfl)
theorem dX0_line_85 : decode cX0_line 85 = .ok (.iinc 3 1, 3) := dk_132 3 1 (dk_at dksX0_line_3 16 rfl rfl)
theorem dX0_line_88 : decode cX0_line 88 = .ok (.goto (-68), 3) := dk_167 255 188 (dk_at dksX0_line_3 19 rfl rfl)
theorem dX0_line_91 : decode cX0_line 91 = .ok (.iload_n 2, 1) := dk_28 (dk_at dksX0_line_3 22 rfl rfl)
theorem dX0_line_92 : decode cX0_line 92 = .ok (.ireturn, 1) := dk_172 (dk_at dksX0_line_3 23 rfl rfl)
abbrev cX0_house : ByteArray := prog_1_method_65_code
def yX0_house : MethodName := ⟨RX0, "house", "(II)I"⟩
def dkwX0_house_1 : List UInt8 := [16, 6, 28, 104, 27, 96, 46, 184, 0, 226, 167, 0, 5, 16, 254, 172]
abbrev dktX0_house_1 : List UInt8 := dkwX0_house_1 ++ []
def dkwX0_house_0 : List UInt8 := [42, 27, 182, 1, 66, 153, 0, 31, 42, 28, 182, 1, 13, 153, 0, 23, 42, 182, 0, 194, 180, 1, 69]
abbrev dktX0_house_0 : List UInt8 := dkwX0_house_0 ++ dktX0_house_1
theorem dksX0_house_0 : cX0_house.data.toList.drop 0 = dktX0_house_0 := by decide +kernel
theorem dksX0_house_1 : cX0_house.data.toList.drop 23 = dktX0_house_1 := dk_seg dksX0_house_0 23 rfl rfl
theorem dX0_house_0 : decode cX0_house 0 = .ok (.aload_n 0, 1) := dk_42 (dk_at dksX0_house_0 0 rfl rfl)
theorem dX0_house_1 : decode cX0_house 1 = .ok (.iload_n 1, 1) := dk_27 (dk_at dksX0_house_0 1 rfl rfl)
theorem dX0_house_2 : decode cX0_house 2 = .ok (.invokevirtual 322, 3) := dk_182 1 66 (dk_at dksX0_house_0 2 rfl rfl)
theorem dX0_house_5 : decode cX0_house 5 = .ok (.ifCond .eq 31, 3) := dk_153 0 31 (dk_at dksX0_house_0 5 rfl rfl)
theorem dX0_house_8 : decode cX0_house 8 = .ok (.aload_n 0, 1) := dk_42 (dk_at dksX0_house_0 8 rfl rfl)
theorem dX0_house_9 : decode cX0_house 9 = .ok (.iload_n 2, 1) := dk_28 (dk_at dksX0_house_0 9 rfl rfl)
theorem dX0_house_10 : decode cX0_house 10 = .ok (.invokevirtual 269, 3) := dk_182 1 13 (dk_at dksX0_house_0 10 rfl rfl)
theorem dX0_house_13 : decode cX0_house 13 = .ok (.ifCond .eq 23, 3) := dk_153 0 23 (dk_at dksX0_house_0 13 rfl rfl)
theorem dX0_house_16 : decode cX0_house 16 = .ok (.aload_n 0, 1) := dk_42 (dk_at dksX0_house_0 16 rfl rfl)
theorem dX0_house_17 : decode cX0_house 17 = .ok (.invokevirtual 194, 3) := dk_182 0 194 (dk_at dksX0_house_0 17 rfl rfl)
theorem dX0_house_20 : decode cX0_house 20 = .ok (.getfield 325, 3) := dk_180 1 69 (dk_at dksX0_house_0 20 rfl rfl)
theorem dX0_house_23 : decode cX0_house 23 = .ok (.bipush 6, 2) := dk_16 6 (dk_at dksX0_house_1 0 rfl rfl)
theorem dX0_house_25 : decode cX0_house 25 = .ok (.iload_n 2, 1) := dk_28 (dk_at dksX0_house_1 2 rfl rfl)
theorem dX0_house_26 : decode cX0_house 26 = .ok (.imul, 1) := dk_104 (dk_at dksX0_house_1 3 rfl rfl)
theorem dX0_house_27 : decode cX0_house 27 = .ok (.iload_n 1, 1) := dk_27 (dk_at dksX0_house_1 4 rfl rfl)
theorem dX0_house_28 : decode cX0_house 28 = .ok (.iadd, 1) := dk_96 (dk_at dksX0_house_1 5 rfl rfl)
theorem dX0_house_29 : decode cX0_house 29 = .ok (.iaload, 1) := dk_46 (dk_at dksX0_house_1 6 rfl rfl)
theorem dX0_house_30 : decode cX0_house 30 = .ok (.invokestatic 226, 3) := dk_184 0 226 (dk_at dksX0_house_1 7 rfl rfl)
theorem dX0_house_33 : decode cX0_house 33 = .ok (.goto 5, 3) := dk_167 0 5 (dk_at dksX0_house_1 10 rfl rfl)
theorem dX0_house_36 : decode cX0_house 36 = .ok (.bipush (-2), 2) := dk_16 254 (dk_at dksX0_house_1 13 rfl rfl)
theorem dX0_house_38 : decode cX0_house 38 = .ok (.ireturn, 1) := dk_172 (dk_at dksX0_house_1 15 rfl rfl)
abbrev cX0_isHouse : ByteArray := prog_1_method_17_code
def yX0_isHouse : MethodName := ⟨RX0, "isHouse", "(I)Z"⟩
def dkwX0_isHouse_0 : List UInt8 := [27, 133, 9, 42, 180, 0, 47, 180, 0, 135, 185, 0, 120, 1, 0, 4, 100, 133, 184, 0, 11, 172]
abbrev dktX0_isHouse_0 : List UInt8 := dkwX0_isHouse_0 ++ []
theorem dksX0_isHouse_0 : cX0_isHouse.data.toList.drop 0 = dktX0_isHouse_0 := by decide +kernel
theorem dX0_isHouse_0 : decode cX0_isHouse 0 = .ok (.iload_n 1, 1) := dk_27 (dk_at dksX0_isHouse_0 0 rfl rfl)
theorem dX0_isHouse_1 : decode cX0_isHouse 1 = .ok (.i2l, 1) := dk_133 (dk_at dksX0_isHouse_0 1 rfl rfl)
theorem dX0_isHouse_2 : decode cX0_isHouse 2 = .ok (.lconst 0, 1) := dk_9 (dk_at dksX0_isHouse_0 2 rfl rfl)
theorem dX0_isHouse_3 : decode cX0_isHouse 3 = .ok (.aload_n 0, 1) := dk_42 (dk_at dksX0_isHouse_0 3 rfl rfl)
theorem dX0_isHouse_4 : decode cX0_isHouse 4 = .ok (.getfield 47, 3) := dk_180 0 47 (dk_at dksX0_isHouse_0 4 rfl rfl)
theorem dX0_isHouse_7 : decode cX0_isHouse 7 = .ok (.getfield 135, 3) := dk_180 0 135 (dk_at dksX0_isHouse_0 7 rfl rfl)
theorem dX0_isHouse_10 : decode cX0_isHouse 10 = .ok (.invokeinterface 120 1, 5) := by decide +kernel
theorem dX0_isHouse_15 : decode cX0_isHouse 15 = .ok (.iconst 1, 1) := dk_4 (dk_at dksX0_isHouse_0 15 rfl rfl)
theorem dX0_isHouse_16 : decode cX0_isHouse 16 = .ok (.isub, 1) := dk_100 (dk_at dksX0_isHouse_0 16 rfl rfl)
theorem dX0_isHouse_17 : decode cX0_isHouse 17 = .ok (.i2l, 1) := dk_133 (dk_at dksX0_isHouse_0 17 rfl rfl)
theorem dX0_isHouse_18 : decode cX0_isHouse 18 = .ok (.invokestatic 11, 3) := dk_184 0 11 (dk_at dksX0_isHouse_0 18 rfl rfl)
theorem dX0_isHouse_21 : decode cX0_isHouse 21 = .ok (.ireturn, 1) := dk_172 (dk_at dksX0_isHouse_0 21 rfl rfl)
abbrev cX0_moved : ByteArray := prog_1_method_66_code
def yX0_moved : MethodName := ⟨RX0, "moved", "(I)I"⟩
def dkwX0_moved_0 : List UInt8 := [42, 27, 182, 1, 66, 153, 0, 15, 42, 182, 0, 194, 180, 1, 71, 27, 46, 167, 0, 5, 16, 254, 172]
abbrev dktX0_moved_0 : List UInt8 := dkwX0_moved_0 ++ []
theorem dksX0_moved_0 : cX0_moved.data.toList.drop 0 = dktX0_moved_0 := by decide +kernel
theorem dX0_moved_0 : decode cX0_moved 0 = .ok (.aload_n 0, 1) := dk_42 (dk_at dksX0_moved_0 0 rfl rfl)
theorem dX0_moved_1 : decode cX0_moved 1 = .ok (.iload_n 1, 1) := dk_27 (dk_at dksX0_moved_0 1 rfl rfl)
theorem dX0_moved_2 : decode cX0_moved 2 = .ok (.invokevirtual 322, 3) := dk_182 1 66 (dk_at dksX0_moved_0 2 rfl rfl)
theorem dX0_moved_5 : decode cX0_moved 5 = .ok (.ifCond .eq 15, 3) := dk_153 0 15 (dk_at dksX0_moved_0 5 rfl rfl)
theorem dX0_moved_8 : decode cX0_moved 8 = .ok (.aload_n 0, 1) := dk_42 (dk_at dksX0_moved_0 8 rfl rfl)
theorem dX0_moved_9 : decode cX0_moved 9 = .ok (.invokevirtual 194, 3) := dk_182 0 194 (dk_at dksX0_moved_0 9 rfl rfl)
theorem dX0_moved_12 : decode cX0_moved 12 = .ok (.getfield 327, 3) := dk_180 1 71 (dk_at dksX0_moved_0 12 rfl rfl)
theorem dX0_moved_15 : decode cX0_moved 15 = .ok (.iload_n 1, 1) := dk_27 (dk_at dksX0_moved_0 15 rfl rfl)
theorem dX0_moved_16 : decode cX0_moved 16 = .ok (.iaload, 1) := dk_46 (dk_at dksX0_moved_0 16 rfl rfl)
theorem dX0_moved_17 : decode cX0_moved 17 = .ok (.goto 5, 3) := dk_167 0 5 (dk_at dksX0_moved_0 17 rfl rfl)
theorem dX0_moved_20 : decode cX0_moved 20 = .ok (.bipush (-2), 2) := dk_16 254 (dk_at dksX0_moved_0 20 rfl rfl)
theorem dX0_moved_22 : decode cX0_moved 22 = .ok (.ireturn, 1) := dk_172 (dk_at dksX0_moved_0 22 rfl rfl)
abbrev cX0_moves : ByteArray := prog_1_method_67_code
def yX0_moves : MethodName := ⟨RX0, "moves", "(I)I"⟩
def dkwX0_moves_0 : List UInt8 := [42, 27, 133, 182, 0, 138, 153, 0, 15, 42, 182, 0, 194, 180, 1, 74, 27, 46, 167, 0, 5, 16, 254, 172]
abbrev dktX0_moves_0 : List UInt8 := dkwX0_moves_0 ++ []
theorem dksX0_moves_0 : cX0_moves.data.toList.drop 0 = dktX0_moves_0 := by decide +kernel
theorem dX0_moves_0 : decode cX0_moves 0 = .ok (.aload_n 0, 1) := dk_42 (dk_at dksX0_moves_0 0 rfl rfl)
theorem dX0_moves_1 : decode cX0_moves 1 = .ok (.iload_n 1, 1) := dk_27 (dk_at dksX0_moves_0 1 rfl rfl)
theorem dX0_moves_2 : decode cX0_moves 2 = .ok (.i2l, 1) := dk_133 (dk_at dksX0_moves_0 2 rfl rfl)
theorem dX0_moves_3 : decode cX0_moves 3 = .ok (.invokevirtual 138, 3) := dk_182 0 138 (dk_at dksX0_moves_0 3 rfl rfl)
theorem dX0_moves_6 : decode cX0_moves 6 = .ok (.ifCond .eq 15, 3) := dk_153 0 15 (dk_at dksX0_moves_0 6 rfl rfl)
theorem dX0_moves_9 : decode cX0_moves 9 = .ok (.aload_n 0, 1) := dk_42 (dk_at dksX0_moves_0 9 rfl rfl)
theorem dX0_moves_10 : decode cX0_moves 10 = .ok (.invokevirtual 194, 3) := dk_182 0 194 (dk_at dksX0_moves_0 10 rfl rfl)
theorem dX0_moves_13 : decode cX0_moves 13 = .ok (.getfield 330, 3) := dk_180 1 74 (dk_at dksX0_moves_0 13 rfl rfl)
theorem dX0_moves_16 : decode cX0_moves 16 = .ok (.iload_n 1, 1) := dk_27 (dk_at dksX0_moves_0 16 rfl rfl)
theorem dX0_moves_17 : decode cX0_moves 17 = .ok (.iaload, 1) := dk_46 (dk_at dksX0_moves_0 17 rfl rfl)
theorem dX0_moves_18 : decode cX0_moves 18 = .ok (.goto 5, 3) := dk_167 0 5 (dk_at dksX0_moves_0 18 rfl rfl)
theorem dX0_moves_21 : decode cX0_moves 21 = .ok (.bipush (-2), 2) := dk_16 254 (dk_at dksX0_moves_0 21 rfl rfl)
theorem dX0_moves_23 : decode cX0_moves 23 = .ok (.ireturn, 1) := dk_172 (dk_at dksX0_moves_0 23 rfl rfl)
abbrev cX0_served : ByteArray := prog_1_method_68_code
def yX0_served : MethodName := ⟨RX0, "served", "(I)I"⟩
def dkwX0_served_5 : List UInt8 := [167, 255, 196, 28, 21, 5, 153, 0, 7, 4, 167, 0, 4, 3, 96, 61, 132, 3, 1, 167, 255, 139, 28, 172]
abbrev dktX0_served_5 : List UInt8 := dkwX0_served_5 ++ []
def dkwX0_served_4 : List UInt8 := [21, 4, 21, 6, 182, 1, 55, 184, 0, 217, 153, 0, 7, 4, 167, 0, 4, 3, 128, 54, 5, 132, 6, 1]
abbrev dktX0_served_4 : List UInt8 := dkwX0_served_4 ++ dktX0_served_5
def dkwX0_served_3 : List UInt8 := [21, 5, 42, 21, 4, 21, 6, 182, 1, 55, 2, 159, 0, 30, 42, 180, 0, 68, 180, 1, 19, 27, 47, 42]
abbrev dktX0_served_3 : List UInt8 := dkwX0_served_3 ++ dktX0_served_4
def dkwX0_served_2 : List UInt8 := [104, 29, 96, 46, 54, 4, 3, 54, 5, 3, 54, 6, 21, 6, 7, 162, 0, 60, 21, 4, 2, 159, 0, 54]
abbrev dktX0_served_2 : List UInt8 := dkwX0_served_2 ++ dktX0_served_3
def dkwX0_served_1 : List UInt8 := [180, 0, 47, 180, 0, 135, 185, 0, 120, 1, 0, 162, 0, 107, 42, 180, 0, 68, 180, 1, 69, 16, 6, 27]
abbrev dktX0_served_1 : List UInt8 := dkwX0_served_1 ++ dktX0_served_2
def dkwX0_served_0 : List UInt8 := [42, 27, 182, 1, 13, 154, 0, 6, 16, 254, 172, 42, 182, 0, 194, 87, 3, 61, 3, 62, 29, 42]
abbrev dktX0_served_0 : List UInt8 := dkwX0_served_0 ++ dktX0_served_1
theorem dksX0_served_0 : cX0_served.data.toList.drop 0 = dktX0_served_0 := by decide +kernel
theorem dksX0_served_1 : cX0_served.data.toList.drop 22 = dktX0_served_1 := dk_seg dksX0_served_0 22 rfl rfl
theorem dksX0_served_2 : cX0_served.data.toList.drop 46 = dktX0_served_2 := dk_seg dksX0_served_1 24 rfl rfl
theorem dksX0_served_3 : cX0_served.data.toList.drop 70 = dktX0_served_3 := dk_seg dksX0_served_2 24 rfl rfl
theorem dksX0_served_4 : cX0_served.data.toList.drop 94 = dktX0_served_4 := dk_seg dksX0_served_3 24 rfl rfl
theorem dksX0_served_5 : cX0_served.data.toList.drop 118 = dktX0_served_5 := dk_seg dksX0_served_4 24 rfl rfl
theorem dX0_served_0 : decode cX0_served 0 = .ok (.aload_n 0, 1) := dk_42 (dk_at dksX0_served_0 0 rfl rfl)
theorem dX0_served_1 : decode cX0_served 1 = .ok (.iload_n 1, 1) := dk_27 (dk_at dksX0_served_0 1 rfl rfl)
theorem dX0_served_2 : decode cX0_served 2 = .ok (.invokevirtual 269, 3) := dk_182 1 13 (dk_at dksX0_served_0 2 rfl rfl)
theorem dX0_served_5 : decode cX0_served 5 = .ok (.ifCond .ne 6, 3) := dk_154 0 6 (dk_at dksX0_served_0 5 rfl rfl)
theorem dX0_served_8 : decode cX0_served 8 = .ok (.bipush (-2), 2) := dk_16 254 (dk_at dksX0_served_0 8 rfl rfl)
theorem dX0_served_10 : decode cX0_served 10 = .ok (.ireturn, 1) := dk_172 (dk_at dksX0_served_0 10 rfl rfl)
theorem dX0_served_11 : decode cX0_served 11 = .ok (.aload_n 0, 1) := dk_42 (dk_at dksX0_served_0 11 rfl rfl)
theorem dX0_served_12 : decode cX0_served 12 = .ok (.invokevirtual 194, 3) := dk_182 0 194 (dk_at dksX0_served_0 12 rfl rfl)
theorem dX0_served_15 : decode cX0_served 15 = .ok (.pop, 1) := dk_87 (dk_at dksX0_served_0 15 rfl rfl)
theorem dX0_served_16 : decode cX0_served 16 = .ok (.iconst 0, 1) := dk_3 (dk_at dksX0_served_0 16 rfl rfl)
theorem dX0_served_17 : decode cX0_served 17 = .ok (.istore_n 2, 1) := dk_61 (dk_at dksX0_served_0 17 rfl rfl)
theorem dX0_served_18 : decode cX0_served 18 = .ok (.iconst 0, 1) := dk_3 (dk_at dksX0_served_0 18 rfl rfl)
theorem dX0_served_19 : decode cX0_served 19 = .ok (.istore_n 3, 1) := dk_62 (dk_at dksX0_served_0 19 rfl rfl)
theorem dX0_served_20 : decode cX0_served 20 = .ok (.iload_n 3, 1) := dk_29 (dk_at dksX0_served_0 20 rfl rfl)
theorem dX0_served_21 : decode cX0_served 21 = .ok (.aload_n 0, 1) := dk_42 (dk_at dksX0_served_0 21 rfl rfl)
theorem dX0_served_22 : decode cX0_served 22 = .ok (.getfield 47, 3) := dk_180 0 47 (dk_at dksX0_served_1 0 rfl rfl)
theorem dX0_served_25 : decode cX0_served 25 = .ok (.getfield 135, 3) := dk_180 0 135 (dk_at dksX0_served_1 3 rfl rfl)
theorem dX0_served_28 : decode cX0_served 28 = .ok (.invokeinterface 120 1, 5) := by decide +kernel
theorem dX0_served_33 : decode cX0_served 33 = .ok (.if_icmp .ge 107, 3) := dk_162 0 107 (dk_at dksX0_served_1 11 rfl rfl)
theorem dX0_served_36 : decode cX0_served 36 = .ok (.aload_n 0, 1) := dk_42 (dk_at dksX0_served_1 14 rfl rfl)
theorem dX0_served_37 : decode cX0_served 37 = .ok (.getfield 68, 3) := dk_180 0 68 (dk_at dksX0_served_1 15 rfl rfl)
theorem dX0_served_40 : decode cX0_served 40 = .ok (.getfield 325, 3) := dk_180 1 69 (dk_at dksX0_served_1 18 rfl rfl)
theorem dX0_served_43 : decode cX0_served 43 = .ok (.bipush 6, 2) := dk_16 6 (dk_at dksX0_served_1 21 rfl rfl)
theorem dX0_served_45 : decode cX0_served 45 = .ok (.iload_n 1, 1) := dk_27 (dk_at dksX0_served_1 23 rfl rfl)
theorem dX0_served_46 : decode cX0_served 46 = .ok (.imul, 1) := dk_104 (dk_at dksX0_served_2 0 rfl rfl)
theorem dX0_served_47 : decode cX0_served 47 = .ok (.iload_n 3, 1) := dk_29 (dk_at dksX0_served_2 1 rfl rfl)
theorem dX0_served_48 : decode cX0_served 48 = .ok (.iadd, 1) := dk_96 (dk_at dksX0_served_2 2 rfl rfl)
theorem dX0_served_49 : decode cX0_served 49 = .ok (.iaload, 1) := dk_46 (dk_at dksX0_served_2 3 rfl rfl)
theorem dX0_served_50 : decode cX0_served 50 = .ok (.istore 4, 2) := dk_54 4 (dk_at dksX0_served_2 4 rfl rfl)
theorem dX0_served_52 : decode cX0_served 52 = .ok (.iconst 0, 1) := dk_3 (dk_at dksX0_served_2 6 rfl rfl)
theorem dX0_served_53 : decode cX0_served 53 = .ok (.istore 5, 2) := dk_54 5 (dk_at dksX0_served_2 7 rfl rfl)
theorem dX0_served_55 : decode cX0_served 55 = .ok (.iconst 0, 1) := dk_3 (dk_at dksX0_served_2 9 rfl rfl)
theorem dX0_served_56 : decode cX0_served 56 = .ok (.istore 6, 2) := dk_54 6 (dk_at dksX0_served_2 10 rfl rfl)
theorem dX0_served_58 : decode cX0_served 58 = .ok (.iload 6, 2) := dk_21 6 (dk_at dksX0_served_2 12 rfl rfl)
theorem dX0_served_60 : decode cX0_served 60 = .ok (.iconst 4, 1) := dk_7 (dk_at dksX0_served_2 14 rfl rfl)
theorem dX0_served_61 : decode cX0_served 61 = .ok (.if_icmp .ge 60, 3) := dk_162 0 60 (dk_at dksX0_served_2 15 rfl rfl)
theorem dX0_served_64 : decode cX0_served 64 = .ok (.iload 4, 2) := dk_21 4 (dk_at dksX0_served_2 18 rfl rfl)
theorem dX0_served_66 : decode cX0_served 66 = .ok (.iconst (-1), 1) := dk_2 (dk_at dksX0_served_2 20 rfl rfl)
theorem dX0_served_67 : decode cX0_served 67 = .ok (.if_icmp .eq 54, 3) := dk_159 0 54 (dk_at dksX0_served_2 21 rfl rfl)
theorem dX0_served_70 : decode cX0_served 70 = .ok (.iload 5, 2) := dk_21 5 (dk_at dksX0_served_3 0 rfl rfl)
theorem dX0_served_72 : decode cX0_served 72 = .ok (.aload_n 0, 1) := dk_42 (dk_at dksX0_served_3 2 rfl rfl)
theorem dX0_served_73 : decode cX0_served 73 = .ok (.iload 4, 2) := dk_21 4 (dk_at dksX0_served_3 3 rfl rfl)
theorem dX0_served_75 : decode cX0_served 75 = .ok (.iload 6, 2) := dk_21 6 (dk_at dksX0_served_3 5 rfl rfl)
theorem dX0_served_77 : decode cX0_served 77 = .ok (.invokevirtual 311, 3) := dk_182 1 55 (dk_at dksX0_served_3 7 rfl rfl)
theorem dX0_served_80 : decode cX0_served 80 = .ok (.iconst (-1), 1) := dk_2 (dk_at dksX0_served_3 10 rfl rfl)
theorem dX0_served_81 : decode cX0_served 81 = .ok (.if_icmp .eq 30, 3) := dk_159 0 30 (dk_at dksX0_served_3 11 rfl rfl)
theorem dX0_served_84 : decode cX0_served 84 = .ok (.aload_n 0, 1) := dk_42 (dk_at dksX0_served_3 14 rfl rfl)
theorem dX0_served_85 : decode cX0_served 85 = .ok (.getfield 68, 3) := dk_180 0 68 (dk_at dksX0_served_3 15 rfl rfl)
theorem dX0_served_88 : decode cX0_served 88 = .ok (.getfield 275, 3) := dk_180 1 19 (dk_at dksX0_served_3 18 rfl rfl)
theorem dX0_served_91 : decode cX0_served 91 = .ok (.iload_n 1, 1) := dk_27 (dk_at dksX0_served_3 21 rfl rfl)
theorem dX0_served_92 : decode cX0_served 92 = .ok (.laload, 1) := dk_47 (dk_at dksX0_served_3 22 rfl rfl)
theorem dX0_served_93 : decode cX0_served 93 = .ok (.aload_n 0, 1) := dk_42 (dk_at dksX0_served_3 23 rfl rfl)
theorem dX0_served_94 : decode cX0_served 94 = .ok (.iload 4, 2) := dk_21 4 (dk_at dksX0_served_4 0 rfl rfl)
theorem dX0_served_96 : decode cX0_served 96 = .ok (.iload 6, 2) := dk_21 6 (dk_at dksX0_served_4 2 rfl rfl)
theorem dX0_served_98 : decode cX0_served 98 = .ok (.invokevirtual 311, 3) := dk_182 1 55 (dk_at dksX0_served_4 4 rfl rfl)
theorem dX0_served_101 : decode cX0_served 101 = .ok (.invokestatic 217, 3) := dk_184 0 217 (dk_at dksX0_served_4 7 rfl rfl)
theorem dX0_served_104 : decode cX0_served 104 = .ok (.ifCond .eq 7, 3) := dk_153 0 7 (dk_at dksX0_served_4 10 rfl rfl)
theorem dX0_served_107 : decode cX0_served 107 = .ok (.iconst 1, 1) := dk_4 (dk_at dksX0_served_4 13 rfl rfl)
theorem dX0_served_108 : decode cX0_served 108 = .ok (.goto 4, 3) := dk_167 0 4 (dk_at dksX0_served_4 14 rfl rfl)
theorem dX0_served_111 : decode cX0_served 111 = .ok (.iconst 0, 1) := dk_3 (dk_at dksX0_served_4 17 rfl rfl)
theorem dX0_served_112 : decode cX0_served 112 = .ok (.ior, 1) := dk_128 (dk_at dksX0_served_4 18 rfl rfl)
theorem dX0_served_113 : decode cX0_served 113 = .ok (.istore 5, 2) := dk_54 5 (dk_at dksX0_served_4 19 rfl rfl)
theorem dX0_served_115 : decode cX0_served 115 = .ok (.iinc 6 1, 3) := dk_132 6 1 (dk_at dksX0_served_4 21 rfl rfl)
theorem dX0_served_118 : decode cX0_served 118 = .ok (.goto (-60), 3) := dk_167 255 196 (dk_at dksX0_served_5 0 rfl rfl)
theorem dX0_served_121 : decode cX0_served 121 = .ok (.iload_n 2, 1) := dk_28 (dk_at dksX0_served_5 3 rfl rfl)
theorem dX0_served_122 : decode cX0_served 122 = .ok (.iload 5, 2) := dk_21 5 (dk_at dksX0_served_5 4 rfl rfl)
theorem dX0_served_124 : decode cX0_served 124 = .ok (.ifCond .eq 7, 3) := dk_153 0 7 (dk_at dksX0_served_5 6 rfl rfl)
theorem dX0_served_127 : decode cX0_served 127 = .ok (.iconst 1, 1) := dk_4 (dk_at dksX0_served_5 9 rfl rfl)
theorem dX0_served_128 : decode cX0_served 128 = .ok (.goto 4, 3) := dk_167 0 4 (dk_at dksX0_served_5 10 rfl rfl)
theorem dX0_served_131 : decode cX0_served 131 = .ok (.iconst 0, 1) := dk_3 (dk_at dksX0_served_5 13 rfl rfl)
theorem dX0_served_132 : decode cX0_served 132 = .ok (.iadd, 1) := dk_96 (dk_at dksX0_served_5 14 rfl rfl)
theorem dX0_served_133 : decode cX0_served 133 = .ok (.istore_n 2, 1) := dk_61 (dk_at dksX0_served_5 15 rfl rfl)
theorem dX0_served_134 : decode cX0_served 134 = .ok (.iinc 3 1, 3) := dk_132 3 1 (dk_at dksX0_served_5 16 rfl rfl)
theorem dX0_served_137 : decode cX0_served 137 = .ok (.goto (-117), 3) := dk_167 255 139 (dk_at dksX0_served_5 19 rfl rfl)
theorem dX0_served_140 : decode cX0_served 140 = .ok (.iload_n 2, 1) := dk_28 (dk_at dksX0_served_5 22 rfl rfl)
theorem dX0_served_141 : decode cX0_served 141 = .ok (.ireturn, 1) := dk_172 (dk_at dksX0_served_5 23 rfl rfl)
abbrev cX0_cover : ByteArray := prog_1_method_71_code
def yX0_cover : MethodName := ⟨RX0, "cover", "()I"⟩
def dkwX0_cover_0 : List UInt8 := [42, 180, 0, 47, 182, 0, 98, 153, 0, 13, 42, 182, 1, 87, 184, 1, 32, 167, 0, 5, 16, 254, 172]
abbrev dktX0_cover_0 : List UInt8 := dkwX0_cover_0 ++ []
theorem dksX0_cover_0 : cX0_cover.data.toList.drop 0 = dktX0_cover_0 := by decide +kernel
theorem dX0_cover_0 : decode cX0_cover 0 = .ok (.aload_n 0, 1) := dk_42 (dk_at dksX0_cover_0 0 rfl rfl)
theorem dX0_cover_1 : decode cX0_cover 1 = .ok (.getfield 47, 3) := dk_180 0 47 (dk_at dksX0_cover_0 1 rfl rfl)
theorem dX0_cover_4 : decode cX0_cover 4 = .ok (.invokevirtual 98, 3) := dk_182 0 98 (dk_at dksX0_cover_0 4 rfl rfl)
theorem dX0_cover_7 : decode cX0_cover 7 = .ok (.ifCond .eq 13, 3) := dk_153 0 13 (dk_at dksX0_cover_0 7 rfl rfl)
theorem dX0_cover_10 : decode cX0_cover 10 = .ok (.aload_n 0, 1) := dk_42 (dk_at dksX0_cover_0 10 rfl rfl)
theorem dX0_cover_11 : decode cX0_cover 11 = .ok (.invokevirtual 343, 3) := dk_182 1 87 (dk_at dksX0_cover_0 11 rfl rfl)
theorem dX0_cover_14 : decode cX0_cover 14 = .ok (.invokestatic 288, 3) := dk_184 1 32 (dk_at dksX0_cover_0 14 rfl rfl)
theorem dX0_cover_17 : decode cX0_cover 17 = .ok (.goto 5, 3) := dk_167 0 5 (dk_at dksX0_cover_0 17 rfl rfl)
theorem dX0_cover_20 : decode cX0_cover 20 = .ok (.bipush (-2), 2) := dk_16 254 (dk_at dksX0_cover_0 20 rfl rfl)
theorem dX0_cover_22 : decode cX0_cover 22 = .ok (.ireturn, 1) := dk_172 (dk_at dksX0_cover_0 22 rfl rfl)
abbrev cX0_coverOf : ByteArray := prog_1_method_70_code
def yX0_coverOf : MethodName := ⟨RX0, "coverOf", "()I"⟩
def dkwX0_coverOf_2 : List UInt8 := [28, 60, 132, 2, 1, 167, 255, 215, 27, 172]
abbrev dktX0_coverOf_2 : List UInt8 := dkwX0_coverOf_2 ++ []
def dkwX0_coverOf_1 : List UInt8 := [27, 184, 1, 32, 162, 0, 22, 42, 28, 182, 1, 83, 42, 42, 182, 1, 80, 182, 1, 83, 148, 154, 0, 5]
abbrev dktX0_coverOf_1 : List UInt8 := dkwX0_coverOf_1 ++ dktX0_coverOf_2
def dkwX0_coverOf_0 : List UInt8 := [42, 182, 0, 194, 87, 42, 182, 1, 80, 60, 3, 61, 28, 42, 182, 1, 80, 162, 0, 39, 28, 184, 1, 32]
abbrev dktX0_coverOf_0 : List UInt8 := dkwX0_coverOf_0 ++ dktX0_coverOf_1
theorem dksX0_coverOf_0 : cX0_coverOf.data.toList.drop 0 = dktX0_coverOf_0 := by decide +kernel
theorem dksX0_coverOf_1 : cX0_coverOf.data.toList.drop 24 = dktX0_coverOf_1 := dk_seg dksX0_coverOf_0 24 rfl rfl
theorem dksX0_coverOf_2 : cX0_coverOf.data.toList.drop 48 = dktX0_coverOf_2 := dk_seg dksX0_coverOf_1 24 rfl rfl
theorem dX0_coverOf_0 : decode cX0_coverOf 0 = .ok (.aload_n 0, 1) := dk_42 (dk_at dksX0_coverOf_0 0 rfl rfl)
theorem dX0_coverOf_1 : decode cX0_coverOf 1 = .ok (.invokevirtual 194, 3) := dk_182 0 194 (dk_at dksX0_coverOf_0 1 rfl rfl)
theorem dX0_coverOf_4 : decode cX0_coverOf 4 = .ok (.pop, 1) := dk_87 (dk_at dksX0_coverOf_0 4 rfl rfl)
theorem dX0_coverOf_5 : decode cX0_coverOf 5 = .ok (.aload_n 0, 1) := dk_42 (dk_at dksX0_coverOf_0 5 rfl rfl)
theorem dX0_coverOf_6 : decode cX0_coverOf 6 = .ok (.invokevirtual 336, 3) := dk_182 1 80 (dk_at dksX0_coverOf_0 6 rfl rfl)
theorem dX0_coverOf_9 : decode cX0_coverOf 9 = .ok (.istore_n 1, 1) := dk_60 (dk_at dksX0_coverOf_0 9 rfl rfl)
theorem dX0_coverOf_10 : decode cX0_coverOf 10 = .ok (.iconst 0, 1) := dk_3 (dk_at dksX0_coverOf_0 10 rfl rfl)
theorem dX0_coverOf_11 : decode cX0_coverOf 11 = .ok (.istore_n 2, 1) := dk_61 (dk_at dksX0_coverOf_0 11 rfl rfl)
theorem dX0_coverOf_12 : decode cX0_coverOf 12 = .ok (.iload_n 2, 1) := dk_28 (dk_at dksX0_coverOf_0 12 rfl rfl)
theorem dX0_coverOf_13 : decode cX0_coverOf 13 = .ok (.aload_n 0, 1) := dk_42 (dk_at dksX0_coverOf_0 13 rfl rfl)
theorem dX0_coverOf_14 : decode cX0_coverOf 14 = .ok (.invokevirtual 336, 3) := dk_182 1 80 (dk_at dksX0_coverOf_0 14 rfl rfl)
theorem dX0_coverOf_17 : decode cX0_coverOf 17 = .ok (.if_icmp .ge 39, 3) := dk_162 0 39 (dk_at dksX0_coverOf_0 17 rfl rfl)
theorem dX0_coverOf_20 : decode cX0_coverOf 20 = .ok (.iload_n 2, 1) := dk_28 (dk_at dksX0_coverOf_0 20 rfl rfl)
theorem dX0_coverOf_21 : decode cX0_coverOf 21 = .ok (.invokestatic 288, 3) := dk_184 1 32 (dk_at dksX0_coverOf_0 21 rfl rfl)
theorem dX0_coverOf_24 : decode cX0_coverOf 24 = .ok (.iload_n 1, 1) := dk_27 (dk_at dksX0_coverOf_1 0 rfl rfl)
theorem dX0_coverOf_25 : decode cX0_coverOf 25 = .ok (.invokestatic 288, 3) := dk_184 1 32 (dk_at dksX0_coverOf_1 1 rfl rfl)
theorem dX0_coverOf_28 : decode cX0_coverOf 28 = .ok (.if_icmp .ge 22, 3) := dk_162 0 22 (dk_at dksX0_coverOf_1 4 rfl rfl)
theorem dX0_coverOf_31 : decode cX0_coverOf 31 = .ok (.aload_n 0, 1) := dk_42 (dk_at dksX0_coverOf_1 7 rfl rfl)
theorem dX0_coverOf_32 : decode cX0_coverOf 32 = .ok (.iload_n 2, 1) := dk_28 (dk_at dksX0_coverOf_1 8 rfl rfl)
theorem dX0_coverOf_33 : decode cX0_coverOf 33 = .ok (.invokevirtual 339, 3) := dk_182 1 83 (dk_at dksX0_coverOf_1 9 rfl rfl)
theorem dX0_coverOf_36 : decode cX0_coverOf 36 = .ok (.aload_n 0, 1) := dk_42 (dk_at dksX0_coverOf_1 12 rfl rfl)
theorem dX0_coverOf_37 : decode cX0_coverOf 37 = .ok (.aload_n 0, 1) := dk_42 (dk_at dksX0_coverOf_1 13 rfl rfl)
theorem dX0_coverOf_38 : decode cX0_coverOf 38 = .ok (.invokevirtual 336, 3) := dk_182 1 80 (dk_at dksX0_coverOf_1 14 rfl rfl)
theorem dX0_coverOf_41 : decode cX0_coverOf 41 = .ok (.invokevirtual 339, 3) := dk_182 1 83 (dk_at dksX0_coverOf_1 17 rfl rfl)
theorem dX0_coverOf_44 : decode cX0_coverOf 44 = .ok (.lcmp, 1) := dk_148 (dk_at dksX0_coverOf_1 20 rfl rfl)
theorem dX0_coverOf_45 : decode cX0_coverOf 45 = .ok (.ifCond .ne 5, 3) := dk_154 0 5 (dk_at dksX0_coverOf_1 21 rfl rfl)
theorem dX0_coverOf_48 : decode cX0_coverOf 48 = .ok (.iload_n 2, 1) := dk_28 (dk_at dksX0_coverOf_2 0 rfl rfl)
theorem dX0_coverOf_49 : decode cX0_coverOf 49 = .ok (.istore_n 1, 1) := dk_60 (dk_at dksX0_coverOf_2 1 rfl rfl)
theorem dX0_coverOf_50 : decode cX0_coverOf 50 = .ok (.iinc 2 1, 3) := dk_132 2 1 (dk_at dksX0_coverOf_2 2 rfl rfl)
theorem dX0_coverOf_53 : decode cX0_coverOf 53 = .ok (.goto (-41), 3) := dk_167 255 215 (dk_at dksX0_coverOf_2 5 rfl rfl)
theorem dX0_coverOf_56 : decode cX0_coverOf 56 = .ok (.iload_n 1, 1) := dk_27 (dk_at dksX0_coverOf_2 8 rfl rfl)
theorem dX0_coverOf_57 : decode cX0_coverOf 57 = .ok (.ireturn, 1) := dk_172 (dk_at dksX0_coverOf_2 9 rfl rfl)
abbrev cX0_every : ByteArray := prog_1_method_14_code
def yX0_every : MethodName := ⟨RX0, "every", "()I"⟩
def dkwX0_every_0 : List UInt8 := [4, 42, 182, 0, 126, 120, 4, 100, 172]
abbrev dktX0_every_0 : List UInt8 := dkwX0_every_0 ++ []
theorem dksX0_every_0 : cX0_every.data.toList.drop 0 = dktX0_every_0 := by decide +kernel
theorem dX0_every_0 : decode cX0_every 0 = .ok (.iconst 1, 1) := dk_4 (dk_at dksX0_every_0 0 rfl rfl)
theorem dX0_every_1 : decode cX0_every 1 = .ok (.aload_n 0, 1) := dk_42 (dk_at dksX0_every_0 1 rfl rfl)
theorem dX0_every_2 : decode cX0_every 2 = .ok (.invokevirtual 126, 3) := dk_182 0 126 (dk_at dksX0_every_0 2 rfl rfl)
theorem dX0_every_5 : decode cX0_every 5 = .ok (.ishl, 1) := dk_120 (dk_at dksX0_every_0 5 rfl rfl)
theorem dX0_every_6 : decode cX0_every 6 = .ok (.iconst 1, 1) := dk_4 (dk_at dksX0_every_0 6 rfl rfl)
theorem dX0_every_7 : decode cX0_every 7 = .ok (.isub, 1) := dk_100 (dk_at dksX0_every_0 7 rfl rfl)
theorem dX0_every_8 : decode cX0_every 8 = .ok (.ireturn, 1) := dk_172 (dk_at dksX0_every_0 8 rfl rfl)
abbrev cX0_beenOf : ByteArray := prog_1_method_69_code
def yX0_beenOf : MethodName := ⟨RX0, "beenOf", "(I)J"⟩
def dkwX0_beenOf_1 : List UInt8 := [42, 180, 0, 68, 180, 0, 248, 21, 4, 47, 167, 0, 4, 9, 129, 65, 132, 4, 1, 167, 255, 218, 32, 173]
abbrev dktX0_beenOf_1 : List UInt8 := dkwX0_beenOf_1 ++ []
def dkwX0_beenOf_0 : List UInt8 := [9, 65, 3, 54, 4, 21, 4, 42, 182, 0, 126, 162, 0, 35, 32, 27, 21, 4, 184, 1, 77, 153, 0, 16]
abbrev dktX0_beenOf_0 : List UInt8 := dkwX0_beenOf_0 ++ dktX0_beenOf_1
theorem dksX0_beenOf_0 : cX0_beenOf.data.toList.drop 0 = dktX0_beenOf_0 := by decide +kernel
theorem dksX0_beenOf_1 : cX0_beenOf.data.toList.drop 24 = dktX0_beenOf_1 := dk_seg dksX0_beenOf_0 24 rfl rfl
theorem dX0_beenOf_0 : decode cX0_beenOf 0 = .ok (.lconst 0, 1) := dk_9 (dk_at dksX0_beenOf_0 0 rfl rfl)
theorem dX0_beenOf_1 : decode cX0_beenOf 1 = .ok (.lstore_n 2, 1) := dk_65 (dk_at dksX0_beenOf_0 1 rfl rfl)
theorem dX0_beenOf_2 : decode cX0_beenOf 2 = .ok (.iconst 0, 1) := dk_3 (dk_at dksX0_beenOf_0 2 rfl rfl)
theorem dX0_beenOf_3 : decode cX0_beenOf 3 = .ok (.istore 4, 2) := dk_54 4 (dk_at dksX0_beenOf_0 3 rfl rfl)
theorem dX0_beenOf_5 : decode cX0_beenOf 5 = .ok (.iload 4, 2) := dk_21 4 (dk_at dksX0_beenOf_0 5 rfl rfl)
theorem dX0_beenOf_7 : decode cX0_beenOf 7 = .ok (.aload_n 0, 1) := dk_42 (dk_at dksX0_beenOf_0 7 rfl rfl)
theorem dX0_beenOf_8 : decode cX0_beenOf 8 = .ok (.invokevirtual 126, 3) := dk_182 0 126 (dk_at dksX0_beenOf_0 8 rfl rfl)
theorem dX0_beenOf_11 : decode cX0_beenOf 11 = .ok (.if_icmp .ge 35, 3) := dk_162 0 35 (dk_at dksX0_beenOf_0 11 rfl rfl)
theorem dX0_beenOf_14 : decode cX0_beenOf 14 = .ok (.lload_n 2, 1) := dk_32 (dk_at dksX0_beenOf_0 14 rfl rfl)
theorem dX0_beenOf_15 : decode cX0_beenOf 15 = .ok (.iload_n 1, 1) := dk_27 (dk_at dksX0_beenOf_0 15 rfl rfl)
theorem dX0_beenOf_16 : decode cX0_beenOf 16 = .ok (.iload 4, 2) := dk_21 4 (dk_at dksX0_beenOf_0 16 rfl rfl)
theorem dX0_beenOf_18 : decode cX0_beenOf 18 = .ok (.invokestatic 333, 3) := dk_184 1 77 (dk_at dksX0_beenOf_0 18 rfl rfl)
theorem dX0_beenOf_21 : decode cX0_beenOf 21 = .ok (.ifCond .eq 16, 3) := dk_153 0 16 (dk_at dksX0_beenOf_0 21 rfl rfl)
theorem dX0_beenOf_24 : decode cX0_beenOf 24 = .ok (.aload_n 0, 1) := dk_42 (dk_at dksX0_beenOf_1 0 rfl rfl)
theorem dX0_beenOf_25 : decode cX0_beenOf 25 = .ok (.getfield 68, 3) := dk_180 0 68 (dk_at dksX0_beenOf_1 1 rfl rfl)
theorem dX0_beenOf_28 : decode cX0_beenOf 28 = .ok (.getfield 248, 3) := dk_180 0 248 (dk_at dksX0_beenOf_1 4 rfl rfl)
theorem dX0_beenOf_31 : decode cX0_beenOf 31 = .ok (.iload 4, 2) := dk_21 4 (dk_at dksX0_beenOf_1 7 rfl rfl)
theorem dX0_beenOf_33 : decode cX0_beenOf 33 = .ok (.laload, 1) := dk_47 (dk_at dksX0_beenOf_1 9 rfl rfl)
theorem dX0_beenOf_34 : decode cX0_beenOf 34 = .ok (.goto 4, 3) := dk_167 0 4 (dk_at dksX0_beenOf_1 10 rfl rfl)
theorem dX0_beenOf_37 : decode cX0_beenOf 37 = .ok (.lconst 0, 1) := dk_9 (dk_at dksX0_beenOf_1 13 rfl rfl)
theorem dX0_beenOf_38 : decode cX0_beenOf 38 = .ok (.lor, 1) := dk_129 (dk_at dksX0_beenOf_1 14 rfl rfl)
theorem dX0_beenOf_39 : decode cX0_beenOf 39 = .ok (.lstore_n 2, 1) := dk_65 (dk_at dksX0_beenOf_1 15 rfl rfl)
theorem dX0_beenOf_40 : decode cX0_beenOf 40 = .ok (.iinc 4 1, 3) := dk_132 4 1 (dk_at dksX0_beenOf_1 16 rfl rfl)
theorem dX0_beenOf_43 : decode cX0_beenOf 43 = .ok (.goto (-38), 3) := dk_167 255 218 (dk_at dksX0_beenOf_1 19 rfl rfl)
theorem dX0_beenOf_46 : decode cX0_beenOf 46 = .ok (.lload_n 2, 1) := dk_32 (dk_at dksX0_beenOf_1 22 rfl rfl)
theorem dX0_beenOf_47 : decode cX0_beenOf 47 = .ok (.lreturn, 1) := dk_173 (dk_at dksX0_beenOf_1 23 rfl rfl)
abbrev cX0_covers : ByteArray := prog_1_method_72_code
def yX0_covers : MethodName := ⟨RX0, "covers", "()I"⟩
def dkwX0_covers_0 : List UInt8 := [42, 180, 0, 47, 182, 0, 98, 153, 0, 10, 42, 182, 1, 87, 167, 0, 5, 16, 254, 172]
abbrev dktX0_covers_0 : List UInt8 := dkwX0_covers_0 ++ []
theorem dksX0_covers_0 : cX0_covers.data.toList.drop 0 = dktX0_covers_0 := by decide +kernel
theorem dX0_covers_0 : decode cX0_covers 0 = .ok (.aload_n 0, 1) := dk_42 (dk_at dksX0_covers_0 0 rfl rfl)
theorem dX0_covers_1 : decode cX0_covers 1 = .ok (.getfield 47, 3) := dk_180 0 47 (dk_at dksX0_covers_0 1 rfl rfl)
theorem dX0_covers_4 : decode cX0_covers 4 = .ok (.invokevirtual 98, 3) := dk_182 0 98 (dk_at dksX0_covers_0 4 rfl rfl)
theorem dX0_covers_7 : decode cX0_covers 7 = .ok (.ifCond .eq 10, 3) := dk_153 0 10 (dk_at dksX0_covers_0 7 rfl rfl)
theorem dX0_covers_10 : decode cX0_covers 10 = .ok (.aload_n 0, 1) := dk_42 (dk_at dksX0_covers_0 10 rfl rfl)
theorem dX0_covers_11 : decode cX0_covers 11 = .ok (.invokevirtual 343, 3) := dk_182 1 87 (dk_at dksX0_covers_0 11 rfl rfl)
theorem dX0_covers_14 : decode cX0_covers 14 = .ok (.goto 5, 3) := dk_167 0 5 (dk_at dksX0_covers_0 14 rfl rfl)
theorem dX0_covers_17 : decode cX0_covers 17 = .ok (.bipush (-2), 2) := dk_16 254 (dk_at dksX0_covers_0 17 rfl rfl)
theorem dX0_covers_19 : decode cX0_covers 19 = .ok (.ireturn, 1) := dk_172 (dk_at dksX0_covers_0 19 rfl rfl)
abbrev cX0_blame : ByteArray := prog_1_method_73_code
def yX0_blame : MethodName := ⟨RX0, "blame", "()I"⟩
def dkwX0_blame_3 : List UInt8 := [29, 61, 21, 4, 60, 132, 3, 1, 167, 255, 201, 28, 172]
abbrev dktX0_blame_3 : List UInt8 := dkwX0_blame_3 ++ []
def dkwX0_blame_2 : List UInt8 := [181, 1, 92, 42, 180, 0, 68, 182, 0, 191, 182, 1, 90, 54, 4, 21, 4, 27, 161, 0, 6, 167, 0, 8]
abbrev dktX0_blame_2 : List UInt8 := dkwX0_blame_2 ++ dktX0_blame_3
def dkwX0_blame_1 : List UInt8 := [62, 29, 42, 182, 0, 126, 162, 0, 53, 42, 180, 0, 68, 182, 0, 188, 89, 180, 1, 92, 4, 29, 120, 128]
abbrev dktX0_blame_1 : List UInt8 := dkwX0_blame_1 ++ dktX0_blame_2
def dkwX0_blame_0 : List UInt8 := [42, 180, 0, 47, 182, 0, 98, 154, 0, 6, 16, 254, 172, 42, 182, 0, 194, 182, 1, 90, 60, 2, 61, 3]
abbrev dktX0_blame_0 : List UInt8 := dkwX0_blame_0 ++ dktX0_blame_1
theorem dksX0_blame_0 : cX0_blame.data.toList.drop 0 = dktX0_blame_0 := by decide +kernel
theorem dksX0_blame_1 : cX0_blame.data.toList.drop 24 = dktX0_blame_1 := dk_seg dksX0_blame_0 24 rfl rfl
theorem dksX0_blame_2 : cX0_blame.data.toList.drop 48 = dktX0_blame_2 := dk_seg dksX0_blame_1 24 rfl rfl
theorem dksX0_blame_3 : cX0_blame.data.toList.drop 72 = dktX0_blame_3 := dk_seg dksX0_blame_2 24 rfl rfl
theorem dX0_blame_0 : decode cX0_blame 0 = .ok (.aload_n 0, 1) := dk_42 (dk_at dksX0_blame_0 0 rfl rfl)
theorem dX0_blame_1 : decode cX0_blame 1 = .ok (.getfield 47, 3) := dk_180 0 47 (dk_at dksX0_blame_0 1 rfl rfl)
theorem dX0_blame_4 : decode cX0_blame 4 = .ok (.invokevirtual 98, 3) := dk_182 0 98 (dk_at dksX0_blame_0 4 rfl rfl)
theorem dX0_blame_7 : decode cX0_blame 7 = .ok (.ifCond .ne 6, 3) := dk_154 0 6 (dk_at dksX0_blame_0 7 rfl rfl)
theorem dX0_blame_10 : decode cX0_blame 10 = .ok (.bipush (-2), 2) := dk_16 254 (dk_at dksX0_blame_0 10 rfl rfl)
theorem dX0_blame_12 : decode cX0_blame 12 = .ok (.ireturn, 1) := dk_172 (dk_at dksX0_blame_0 12 rfl rfl)
theorem dX0_blame_13 : decode cX0_blame 13 = .ok (.aload_n 0, 1) := dk_42 (dk_at dksX0_blame_0 13 rfl rfl)
theorem dX0_blame_14 : decode cX0_blame 14 = .ok (.invokevirtual 194, 3) := dk_182 0 194 (dk_at dksX0_blame_0 14 rfl rfl)
theorem dX0_blame_17 : decode cX0_blame 17 = .ok (.invokevirtual 346, 3) := dk_182 1 90 (dk_at dksX0_blame_0 17 rfl rfl)
theorem dX0_blame_20 : decode cX0_blame 20 = .ok (.istore_n 1, 1) := dk_60 (dk_at dksX0_blame_0 20 rfl rfl)
theorem dX0_blame_21 : decode cX0_blame 21 = .ok (.iconst (-1), 1) := dk_2 (dk_at dksX0_blame_0 21 rfl rfl)
theorem dX0_blame_22 : decode cX0_blame 22 = .ok (.istore_n 2, 1) := dk_61 (dk_at dksX0_blame_0 22 rfl rfl)
theorem dX0_blame_23 : decode cX0_blame 23 = .ok (.iconst 0, 1) := dk_3 (dk_at dksX0_blame_0 23 rfl rfl)
theorem dX0_blame_24 : decode cX0_blame 24 = .ok (.istore_n 3, 1) := dk_62 (dk_at dksX0_blame_1 0 rfl rfl)
theorem dX0_blame_25 : decode cX0_blame 25 = .ok (.iload_n 3, 1) := dk_29 (dk_at dksX0_blame_1 1 rfl rfl)
theorem dX0_blame_26 : decode cX0_blame 26 = .ok (.aload_n 0, 1) := dk_42 (dk_at dksX0_blame_1 2 rfl rfl)
theorem dX0_blame_27 : decode cX0_blame 27 = .ok (.invokevirtual 126, 3) := dk_182 0 126 (dk_at dksX0_blame_1 3 rfl rfl)
theorem dX0_blame_30 : decode cX0_blame 30 = .ok (.if_icmp .ge 53, 3) := dk_162 0 53 (dk_at dksX0_blame_1 6 rfl rfl)
theorem dX0_blame_33 : decode cX0_blame 33 = .ok (.aload_n 0, 1) := dk_42 (dk_at dksX0_blame_1 9 rfl rfl)
theorem dX0_blame_34 : decode cX0_blame 34 = .ok (.getfield 68, 3) := dk_180 0 68 (dk_at dksX0_blame_1 10 rfl rfl)
theorem dX0_blame_37 : decode cX0_blame 37 = .ok (.invokevirtual 188, 3) := dk_182 0 188 (dk_at dksX0_blame_1 13 rfl rfl)
theorem dX0_blame_40 : decode cX0_blame 40 = .ok (.dup, 1) := dk_89 (dk_at dksX0_blame_1 16 rfl rfl)
theorem dX0_blame_41 : decode cX0_blame 41 = .ok (.getfield 348, 3) := dk_180 1 92 (dk_at dksX0_blame_1 17 rfl rfl)
theorem dX0_blame_44 : decode cX0_blame 44 = .ok (.iconst 1, 1) := dk_4 (dk_at dksX0_blame_1 20 rfl rfl)
theorem dX0_blame_45 : decode cX0_blame 45 = .ok (.iload_n 3, 1) := dk_29 (dk_at dksX0_blame_1 21 rfl rfl)
theorem dX0_blame_46 : decode cX0_blame 46 = .ok (.ishl, 1) := dk_120 (dk_at dksX0_blame_1 22 rfl rfl)
theorem dX0_blame_47 : decode cX0_blame 47 = .ok (.ior, 1) := dk_128 (dk_at dksX0_blame_1 23 rfl rfl)
theorem dX0_blame_48 : decode cX0_blame 48 = .ok (.putfield 348, 3) := dk_181 1 92 (dk_at dksX0_blame_2 0 rfl rfl)
theorem dX0_blame_51 : decode cX0_blame 51 = .ok (.aload_n 0, 1) := dk_42 (dk_at dksX0_blame_2 3 rfl rfl)
theorem dX0_blame_52 : decode cX0_blame 52 = .ok (.getfield 68, 3) := dk_180 0 68 (dk_at dksX0_blame_2 4 rfl rfl)
theorem dX0_blame_55 : decode cX0_blame 55 = .ok (.invokevirtual 191, 3) := dk_182 0 191 (dk_at dksX0_blame_2 7 rfl rfl)
theorem dX0_blame_58 : decode cX0_blame 58 = .ok (.invokevirtual 346, 3) := dk_182 1 90 (dk_at dksX0_blame_2 10 rfl rfl)
theorem dX0_blame_61 : decode cX0_blame 61 = .ok (.istore 4, 2) := dk_54 4 (dk_at dksX0_blame_2 13 rfl rfl)
theorem dX0_blame_63 : decode cX0_blame 63 = .ok (.iload 4, 2) := dk_21 4 (dk_at dksX0_blame_2 15 rfl rfl)
theorem dX0_blame_65 : decode cX0_blame 65 = .ok (.iload_n 1, 1) := dk_27 (dk_at dksX0_blame_2 17 rfl rfl)
theorem dX0_blame_66 : decode cX0_blame 66 = .ok (.if_icmp .lt 6, 3) := dk_161 0 6 (dk_at dksX0_blame_2 18 rfl rfl)
theorem dX0_blame_69 : decode cX0_blame 69 = .ok (.goto 8, 3) := dk_167 0 8 (dk_at dksX0_blame_2 21 rfl rfl)
theorem dX0_blame_72 : decode cX0_blame 72 = .ok (.iload_n 3, 1) := dk_29 (dk_at dksX0_blame_3 0 rfl rfl)
theorem dX0_blame_73 : decode cX0_blame 73 = .ok (.istore_n 2, 1) := dk_61 (dk_at dksX0_blame_3 1 rfl rfl)
theorem dX0_blame_74 : decode cX0_blame 74 = .ok (.iload 4, 2) := dk_21 4 (dk_at dksX0_blame_3 2 rfl rfl)
theorem dX0_blame_76 : decode cX0_blame 76 = .ok (.istore_n 1, 1) := dk_60 (dk_at dksX0_blame_3 4 rfl rfl)
theorem dX0_blame_77 : decode cX0_blame 77 = .ok (.iinc 3 1, 3) := dk_132 3 1 (dk_at dksX0_blame_3 5 rfl rfl)
theorem dX0_blame_80 : decode cX0_blame 80 = .ok (.goto (-55), 3) := dk_167 255 201 (dk_at dksX0_blame_3 8 rfl rfl)
theorem dX0_blame_83 : decode cX0_blame 83 = .ok (.iload_n 2, 1) := dk_28 (dk_at dksX0_blame_3 11 rfl rfl)
theorem dX0_blame_84 : decode cX0_blame 84 = .ok (.ireturn, 1) := dk_172 (dk_at dksX0_blame_3 12 rfl rfl)
abbrev cX0_ford : ByteArray := prog_1_method_74_code
def yX0_ford : MethodName := ⟨RX0, "ford", "()I"⟩
def dkwX0_ford_4 : List UInt8 := [163, 0, 6, 167, 0, 8, 29, 61, 21, 4, 60, 132, 3, 1, 167, 255, 171, 28, 172]
abbrev dktX0_ford_4 : List UInt8 := dkwX0_ford_4 ++ []
def dkwX0_ford_3 : List UInt8 := [121, 20, 0, 186, 131, 127, 181, 1, 98, 42, 180, 0, 68, 182, 0, 191, 182, 1, 95, 54, 4, 21, 4, 27]
abbrev dktX0_ford_3 : List UInt8 := dkwX0_ford_3 ++ dktX0_ford_4
def dkwX0_ford_2 : List UInt8 := [89, 180, 1, 98, 10, 42, 180, 0, 47, 180, 0, 155, 29, 185, 0, 129, 2, 0, 192, 0, 2, 182, 0, 171]
abbrev dktX0_ford_2 : List UInt8 := dkwX0_ford_2 ++ dktX0_ford_3
def dkwX0_ford_1 : List UInt8 := [62, 29, 42, 180, 0, 47, 180, 0, 155, 185, 0, 120, 1, 0, 162, 0, 75, 42, 180, 0, 68, 182, 0, 188]
abbrev dktX0_ford_1 : List UInt8 := dkwX0_ford_1 ++ dktX0_ford_2
def dkwX0_ford_0 : List UInt8 := [42, 180, 0, 47, 182, 0, 98, 154, 0, 6, 16, 254, 172, 42, 182, 0, 194, 182, 1, 95, 60, 2, 61, 3]
abbrev dktX0_ford_0 : List UInt8 := dkwX0_ford_0 ++ dktX0_ford_1
theorem dksX0_ford_0 : cX0_ford.data.toList.drop 0 = dktX0_ford_0 := by decide +kernel
theorem dksX0_ford_1 : cX0_ford.data.toList.drop 24 = dktX0_ford_1 := dk_seg dksX0_ford_0 24 rfl rfl
theorem dksX0_ford_2 : cX0_ford.data.toList.drop 48 = dktX0_ford_2 := dk_seg dksX0_ford_1 24 rfl rfl
theorem dksX0_ford_3 : cX0_ford.data.toList.drop 72 = dktX0_ford_3 := dk_seg dksX0_ford_2 24 rfl rfl
theorem dksX0_ford_4 : cX0_ford.data.toList.drop 96 = dktX0_ford_4 := dk_seg dksX0_ford_3 24 rfl rfl
theorem dX0_ford_0 : decode cX0_ford 0 = .ok (.aload_n 0, 1) := dk_42 (dk_at dksX0_ford_0 0 rfl rfl)
theorem dX0_ford_1 : decode cX0_ford 1 = .ok (.getfield 47, 3) := dk_180 0 47 (dk_at dksX0_ford_0 1 rfl rfl)
theorem dX0_ford_4 : decode cX0_ford 4 = .ok (.invokevirtual 98, 3) := dk_182 0 98 (dk_at dksX0_ford_0 4 rfl rfl)
theorem dX0_ford_7 : decode cX0_ford 7 = .ok (.ifCond .ne 6, 3) := dk_154 0 6 (dk_at dksX0_ford_0 7 rfl rfl)
theorem dX0_ford_10 : decode cX0_ford 10 = .ok (.bipush (-2), 2) := dk_16 254 (dk_at dksX0_ford_0 10 rfl rfl)
theorem dX0_ford_12 : decode cX0_ford 12 = .ok (.ireturn, 1) := dk_172 (dk_at dksX0_ford_0 12 rfl rfl)
theorem dX0_ford_13 : decode cX0_ford 13 = .ok (.aload_n 0, 1) := dk_42 (dk_at dksX0_ford_0 13 rfl rfl)
theorem dX0_ford_14 : decode cX0_ford 14 = .ok (.invokevirtual 194, 3) := dk_182 0 194 (dk_at dksX0_ford_0 14 rfl rfl)
theorem dX0_ford_17 : decode cX0_ford 17 = .ok (.invokevirtual 351, 3) := dk_182 1 95 (dk_at dksX0_ford_0 17 rfl rfl)
theorem dX0_ford_20 : decode cX0_ford 20 = .ok (.istore_n 1, 1) := dk_60 (dk_at dksX0_ford_0 20 rfl rfl)
theorem dX0_ford_21 : decode cX0_ford 21 = .ok (.iconst (-1), 1) := dk_2 (dk_at dksX0_ford_0 21 rfl rfl)
theorem dX0_ford_22 : decode cX0_ford 22 = .ok (.istore_n 2, 1) := dk_61 (dk_at dksX0_ford_0 22 rfl rfl)
theorem dX0_ford_23 : decode cX0_ford 23 = .ok (.iconst 0, 1) := dk_3 (dk_at dksX0_ford_0 23 rfl rfl)
theorem dX0_ford_24 : decode cX0_ford 24 = .ok (.istore_n 3, 1) := dk_62 (dk_at dksX0_ford_1 0 rfl rfl)
theorem dX0_ford_25 : decode cX0_ford 25 = .ok (.iload_n 3, 1) := dk_29 (dk_at dksX0_ford_1 1 rfl rfl)
theorem dX0_ford_26 : decode cX0_ford 26 = .ok (.aload_n 0, 1) := dk_42 (dk_at dksX0_ford_1 2 rfl rfl)
theorem dX0_ford_27 : decode cX0_ford 27 = .ok (.getfield 47, 3) := dk_180 0 47 (dk_at dksX0_ford_1 3 rfl rfl)
theorem dX0_ford_30 : decode cX0_ford 30 = .ok (.getfield 155, 3) := dk_180 0 155 (dk_at dksX0_ford_1 6 rfl rfl)
theorem dX0_ford_33 : decode cX0_ford 33 = .ok (.invokeinterface 120 1, 5) := by decide +kernel
theorem dX0_ford_38 : decode cX0_ford 38 = .ok (.if_icmp .ge 75, 3) := dk_162 0 75 (dk_at dksX0_ford_1 14 rfl rfl)
theorem dX0_ford_41 : decode cX0_ford 41 = .ok (.aload_n 0, 1) := dk_42 (dk_at dksX0_ford_1 17 rfl rfl)
theorem dX0_ford_42 : decode cX0_ford 42 = .ok (.getfield 68, 3) := dk_180 0 68 (dk_at dksX0_ford_1 18 rfl rfl)
theorem dX0_ford_45 : decode cX0_ford 45 = .ok (.invokevirtual 188, 3) := dk_182 0 188 (dk_at dksX0_ford_1 21 rfl rfl)
theorem dX0_ford_48 : decode cX0_ford 48 = .ok (.dup, 1) := dk_89 (dk_at dksX0_ford_2 0 rfl rfl)
theorem dX0_ford_49 : decode cX0_ford 49 = .ok (.getfield 354, 3) := dk_180 1 98 (dk_at dksX0_ford_2 1 rfl rfl)
theorem dX0_ford_52 : decode cX0_ford 52 = .ok (.lconst 1, 1) := dk_10 (dk_at dksX0_ford_2 4 rfl rfl)
theorem dX0_ford_53 : decode cX0_ford 53 = .ok (.aload_n 0, 1) := dk_42 (dk_at dksX0_ford_2 5 rfl rfl)
theorem dX0_ford_54 : decode cX0_ford 54 = .ok (.getfield 47, 3) := dk_180 0 47 (dk_at dksX0_ford_2 6 rfl rfl)
theorem dX0_ford_57 : decode cX0_ford 57 = .ok (.getfield 155, 3) := dk_180 0 155 (dk_at dksX0_ford_2 9 rfl rfl)
theorem dX0_ford_60 : decode cX0_ford 60 = .ok (.iload_n 3, 1) := dk_29 (dk_at dksX0_ford_2 12 rfl rfl)
theorem dX0_ford_61 : decode cX0_ford 61 = .ok (.invokeinterface 129 2, 5) := by decide +kernel
theorem dX0_ford_66 : decode cX0_ford 66 = .ok (.checkcast 2, 3) := dk_192 0 2 (dk_at dksX0_ford_2 18 rfl rfl)
theorem dX0_ford_69 : decode cX0_ford 69 = .ok (.invokevirtual 171, 3) := dk_182 0 171 (dk_at dksX0_ford_2 21 rfl rfl)
theorem dX0_ford_72 : decode cX0_ford 72 = .ok (.lshl, 1) := dk_121 (dk_at dksX0_ford_3 0 rfl rfl)
theorem dX0_ford_73 : decode cX0_ford 73 = .ok (.ldc2_w 186, 3) := dk_20 0 186 (dk_at dksX0_ford_3 1 rfl rfl)
theorem dX0_ford_76 : decode cX0_ford 76 = .ok (.lxor, 1) := dk_131 (dk_at dksX0_ford_3 4 rfl rfl)
theorem dX0_ford_77 : decode cX0_ford 77 = .ok (.land, 1) := dk_127 (dk_at dksX0_ford_3 5 rfl rfl)
theorem dX0_ford_78 : decode cX0_ford 78 = .ok (.putfield 354, 3) := dk_181 1 98 (dk_at dksX0_ford_3 6 rfl rfl)
theorem dX0_ford_81 : decode cX0_ford 81 = .ok (.aload_n 0, 1) := dk_42 (dk_at dksX0_ford_3 9 rfl rfl)
theorem dX0_ford_82 : decode cX0_ford 82 = .ok (.getfield 68, 3) := dk_180 0 68 (dk_at dksX0_ford_3 10 rfl rfl)
theorem dX0_ford_85 : decode cX0_ford 85 = .ok (.invokevirtual 191, 3) := dk_182 0 191 (dk_at dksX0_ford_3 13 rfl rfl)
theorem dX0_ford_88 : decode cX0_ford 88 = .ok (.invokevirtual 351, 3) := dk_182 1 95 (dk_at dksX0_ford_3 16 rfl rfl)
theorem dX0_ford_91 : decode cX0_ford 91 = .ok (.istore 4, 2) := dk_54 4 (dk_at dksX0_ford_3 19 rfl rfl)
theorem dX0_ford_93 : decode cX0_ford 93 = .ok (.iload 4, 2) := dk_21 4 (dk_at dksX0_ford_3 21 rfl rfl)
theorem dX0_ford_95 : decode cX0_ford 95 = .ok (.iload_n 1, 1) := dk_27 (dk_at dksX0_ford_3 23 rfl rfl)
theorem dX0_ford_96 : decode cX0_ford 96 = .ok (.if_icmp .gt 6, 3) := dk_163 0 6 (dk_at dksX0_ford_4 0 rfl rfl)
theorem dX0_ford_99 : decode cX0_ford 99 = .ok (.goto 8, 3) := dk_167 0 8 (dk_at dksX0_ford_4 3 rfl rfl)
theorem dX0_ford_102 : decode cX0_ford 102 = .ok (.iload_n 3, 1) := dk_29 (dk_at dksX0_ford_4 6 rfl rfl)
theorem dX0_ford_103 : decode cX0_ford 103 = .ok (.istore_n 2, 1) := dk_61 (dk_at dksX0_ford_4 7 rfl rfl)
theorem dX0_ford_104 : decode cX0_ford 104 = .ok (.iload 4, 2) := dk_21 4 (dk_at dksX0_ford_4 8 rfl rfl)
theorem dX0_ford_106 : decode cX0_ford 106 = .ok (.istore_n 1, 1) := dk_60 (dk_at dksX0_ford_4 10 rfl rfl)
theorem dX0_ford_107 : decode cX0_ford 107 = .ok (.iinc 3 1, 3) := dk_132 3 1 (dk_at dksX0_ford_4 11 rfl rfl)
theorem dX0_ford_110 : decode cX0_ford 110 = .ok (.goto (-85), 3) := dk_167 255 171 (dk_at dksX0_ford_4 14 rfl rfl)
theorem dX0_ford_113 : decode cX0_ford 113 = .ok (.iload_n 2, 1) := dk_28 (dk_at dksX0_ford_4 17 rfl rfl)
theorem dX0_ford_114 : decode cX0_ford 114 = .ok (.ireturn, 1) := dk_172 (dk_at dksX0_ford_4 18 rfl rfl)
abbrev cX0_faced : ByteArray := prog_1_method_78_code
def yX0_faced : MethodName := ⟨RX0, "faced", "(II)I"⟩
def dkwX0_faced_1 : List UInt8 := [50, 28, 182, 1, 115, 180, 1, 118, 172]
abbrev dktX0_faced_1 : List UInt8 := dkwX0_faced_1 ++ []
def dkwX0_faced_0 : List UInt8 := [42, 27, 28, 182, 1, 112, 62, 29, 153, 0, 7, 29, 167, 0, 20, 42, 180, 0, 82, 42, 180, 0, 19, 27]
abbrev dktX0_faced_0 : List UInt8 := dkwX0_faced_0 ++ dktX0_faced_1
theorem dksX0_faced_0 : cX0_faced.data.toList.drop 0 = dktX0_faced_0 := by decide +kernel
theorem dksX0_faced_1 : cX0_faced.data.toList.drop 24 = dktX0_faced_1 := dk_seg dksX0_faced_0 24 rfl rfl
theorem dX0_faced_0 : decode cX0_faced 0 = .ok (.aload_n 0, 1) := dk_42 (dk_at dksX0_faced_0 0 rfl rfl)
theorem dX0_faced_1 : decode cX0_faced 1 = .ok (.iload_n 1, 1) := dk_27 (dk_at dksX0_faced_0 1 rfl rfl)
theorem dX0_faced_2 : decode cX0_faced 2 = .ok (.iload_n 2, 1) := dk_28 (dk_at dksX0_faced_0 2 rfl rfl)
theorem dX0_faced_3 : decode cX0_faced 3 = .ok (.invokevirtual 368, 3) := dk_182 1 112 (dk_at dksX0_faced_0 3 rfl rfl)
theorem dX0_faced_6 : decode cX0_faced 6 = .ok (.istore_n 3, 1) := dk_62 (dk_at dksX0_faced_0 6 rfl rfl)
theorem dX0_faced_7 : decode cX0_faced 7 = .ok (.iload_n 3, 1) := dk_29 (dk_at dksX0_faced_0 7 rfl rfl)
theorem dX0_faced_8 : decode cX0_faced 8 = .ok (.ifCond .eq 7, 3) := dk_153 0 7 (dk_at dksX0_faced_0 8 rfl rfl)
theorem dX0_faced_11 : decode cX0_faced 11 = .ok (.iload_n 3, 1) := dk_29 (dk_at dksX0_faced_0 11 rfl rfl)
theorem dX0_faced_12 : decode cX0_faced 12 = .ok (.goto 20, 3) := dk_167 0 20 (dk_at dksX0_faced_0 12 rfl rfl)
theorem dX0_faced_15 : decode cX0_faced 15 = .ok (.aload_n 0, 1) := dk_42 (dk_at dksX0_faced_0 15 rfl rfl)
theorem dX0_faced_16 : decode cX0_faced 16 = .ok (.getfield 82, 3) := dk_180 0 82 (dk_at dksX0_faced_0 16 rfl rfl)
theorem dX0_faced_19 : decode cX0_faced 19 = .ok (.aload_n 0, 1) := dk_42 (dk_at dksX0_faced_0 19 rfl rfl)
theorem dX0_faced_20 : decode cX0_faced 20 = .ok (.getfield 19, 3) := dk_180 0 19 (dk_at dksX0_faced_0 20 rfl rfl)
theorem dX0_faced_23 : decode cX0_faced 23 = .ok (.iload_n 1, 1) := dk_27 (dk_at dksX0_faced_0 23 rfl rfl)
theorem dX0_faced_24 : decode cX0_faced 24 = .ok (.aaload, 1) := dk_50 (dk_at dksX0_faced_1 0 rfl rfl)
theorem dX0_faced_25 : decode cX0_faced 25 = .ok (.iload_n 2, 1) := dk_28 (dk_at dksX0_faced_1 1 rfl rfl)
theorem dX0_faced_26 : decode cX0_faced 26 = .ok (.invokevirtual 371, 3) := dk_182 1 115 (dk_at dksX0_faced_1 2 rfl rfl)
theorem dX0_faced_29 : decode cX0_faced 29 = .ok (.getfield 374, 3) := dk_180 1 118 (dk_at dksX0_faced_1 5 rfl rfl)
theorem dX0_faced_32 : decode cX0_faced 32 = .ok (.ireturn, 1) := dk_172 (dk_at dksX0_faced_1 8 rfl rfl)
abbrev cX0_whyNotOf : ByteArray := prog_1_method_76_code
def yX0_whyNotOf : MethodName := ⟨RX0, "whyNotOf", "(II)I"⟩
def dkwX0_whyNotOf_0 : List UInt8 := [42, 28, 133, 182, 0, 138, 153, 0, 11, 42, 27, 182, 1, 109, 167, 0, 5, 16, 254, 172]
abbrev dktX0_whyNotOf_0 : List UInt8 := dkwX0_whyNotOf_0 ++ []
theorem dksX0_whyNotOf_0 : cX0_whyNotOf.data.toList.drop 0 = dktX0_whyNotOf_0 := by decide +kernel
theorem dX0_whyNotOf_0 : decode cX0_whyNotOf 0 = .ok (.aload_n 0, 1) := dk_42 (dk_at dksX0_whyNotOf_0 0 rfl rfl)
theorem dX0_whyNotOf_1 : decode cX0_whyNotOf 1 = .ok (.iload_n 2, 1) := dk_28 (dk_at dksX0_whyNotOf_0 1 rfl rfl)
theorem dX0_whyNotOf_2 : decode cX0_whyNotOf 2 = .ok (.i2l, 1) := dk_133 (dk_at dksX0_whyNotOf_0 2 rfl rfl)
theorem dX0_whyNotOf_3 : decode cX0_whyNotOf 3 = .ok (.invokevirtual 138, 3) := dk_182 0 138 (dk_at dksX0_whyNotOf_0 3 rfl rfl)
theorem dX0_whyNotOf_6 : decode cX0_whyNotOf 6 = .ok (.ifCond .eq 11, 3) := dk_153 0 11 (dk_at dksX0_whyNotOf_0 6 rfl rfl)
theorem dX0_whyNotOf_9 : decode cX0_whyNotOf 9 = .ok (.aload_n 0, 1) := dk_42 (dk_at dksX0_whyNotOf_0 9 rfl rfl)
theorem dX0_whyNotOf_10 : decode cX0_whyNotOf 10 = .ok (.iload_n 1, 1) := dk_27 (dk_at dksX0_whyNotOf_0 10 rfl rfl)
theorem dX0_whyNotOf_11 : decode cX0_whyNotOf 11 = .ok (.invokevirtual 365, 3) := dk_182 1 109 (dk_at dksX0_whyNotOf_0 11 rfl rfl)
theorem dX0_whyNotOf_14 : decode cX0_whyNotOf 14 = .ok (.goto 5, 3) := dk_167 0 5 (dk_at dksX0_whyNotOf_0 14 rfl rfl)
theorem dX0_whyNotOf_17 : decode cX0_whyNotOf 17 = .ok (.bipush (-2), 2) := dk_16 254 (dk_at dksX0_whyNotOf_0 17 rfl rfl)
theorem dX0_whyNotOf_19 : decode cX0_whyNotOf 19 = .ok (.ireturn, 1) := dk_172 (dk_at dksX0_whyNotOf_0 19 rfl rfl)
abbrev cX0_whyNot : ByteArray := prog_1_method_75_code
def yX0_whyNot : MethodName := ⟨RX0, "whyNot", "(I)I"⟩
def dkwX0_whyNot_4 : List UInt8 := [182, 0, 206, 154, 0, 6, 16, 254, 172, 132, 3, 3, 167, 255, 199, 3, 172]
abbrev dktX0_whyNot_4 : List UInt8 := dkwX0_whyNot_4 ++ []
def dkwX0_whyNot_3 : List UInt8 := [29, 4, 96, 182, 1, 106, 9, 20, 0, 239, 184, 0, 11, 153, 0, 17, 42, 44, 29, 5, 96, 182, 1, 106]
abbrev dktX0_whyNot_3 : List UInt8 := dkwX0_whyNot_3 ++ dktX0_whyNot_4
def dkwX0_whyNot_2 : List UInt8 := [172, 3, 62, 29, 44, 182, 1, 105, 162, 0, 55, 42, 44, 29, 182, 1, 106, 182, 0, 138, 153, 0, 34, 44]
abbrev dktX0_whyNot_2 : List UInt8 := dkwX0_whyNot_2 ++ dktX0_whyNot_3
def dkwX0_whyNot_1 : List UInt8 := [27, 50, 77, 44, 180, 1, 101, 199, 0, 6, 16, 250, 172, 44, 182, 1, 105, 6, 112, 153, 0, 6, 16, 254]
abbrev dktX0_whyNot_1 : List UInt8 := dkwX0_whyNot_1 ++ dktX0_whyNot_2
def dkwX0_whyNot_0 : List UInt8 := [27, 184, 0, 15, 153, 0, 13, 42, 180, 0, 47, 182, 0, 98, 154, 0, 6, 16, 254, 172, 42, 180, 0, 19]
abbrev dktX0_whyNot_0 : List UInt8 := dkwX0_whyNot_0 ++ dktX0_whyNot_1
theorem dksX0_whyNot_0 : cX0_whyNot.data.toList.drop 0 = dktX0_whyNot_0 := by decide +kernel
theorem dksX0_whyNot_1 : cX0_whyNot.data.toList.drop 24 = dktX0_whyNot_1 := dk_seg dksX0_whyNot_0 24 rfl rfl
theorem dksX0_whyNot_2 : cX0_whyNot.data.toList.drop 48 = dktX0_whyNot_2 := dk_seg dksX0_whyNot_1 24 rfl rfl
theorem dksX0_whyNot_3 : cX0_whyNot.data.toList.drop 72 = dktX0_whyNot_3 := dk_seg dksX0_whyNot_2 24 rfl rfl
theorem dksX0_whyNot_4 : cX0_whyNot.data.toList.drop 96 = dktX0_whyNot_4 := dk_seg dksX0_whyNot_3 24 rfl rfl
theorem dX0_whyNot_0 : decode cX0_whyNot 0 = .ok (.iload_n 1, 1) := dk_27 (dk_at dksX0_whyNot_0 0 rfl rfl)
theorem dX0_whyNot_1 : decode cX0_whyNot 1 = .ok (.invokestatic 15, 3) := dk_184 0 15 (dk_at dksX0_whyNot_0 1 rfl rfl)
theorem dX0_whyNot_4 : decode cX0_whyNot 4 = .ok (.ifCond .eq 13, 3) := dk_153 0 13 (dk_at dksX0_whyNot_0 4 rfl rfl)
theorem dX0_whyNot_7 : decode cX0_whyNot 7 = .ok (.aload_n 0, 1) := dk_42 (dk_at dksX0_whyNot_0 7 rfl rfl)
theorem dX0_whyNot_8 : decode cX0_whyNot 8 = .ok (.getfield 47, 3) := dk_180 0 47 (dk_at dksX0_whyNot_0 8 rfl rfl)
theorem dX0_whyNot_11 : decode cX0_whyNot 11 = .ok (.invokevirtual 98, 3) := dk_182 0 98 (dk_at dksX0_whyNot_0 11 rfl rfl)
theorem dX0_whyNot_14 : decode cX0_whyNot 14 = .ok (.ifCond .ne 6, 3) := dk_154 0 6 (dk_at dksX0_whyNot_0 14 rfl rfl)
theorem dX0_whyNot_17 : decode cX0_whyNot 17 = .ok (.bipush (-2), 2) := dk_16 254 (dk_at dksX0_whyNot_0 17 rfl rfl)
theorem dX0_whyNot_19 : decode cX0_whyNot 19 = .ok (.ireturn, 1) := dk_172 (dk_at dksX0_whyNot_0 19 rfl rfl)
theorem dX0_whyNot_20 : decode cX0_whyNot 20 = .ok (.aload_n 0, 1) := dk_42 (dk_at dksX0_whyNot_0 20 rfl rfl)
theorem dX0_whyNot_21 : decode cX0_whyNot 21 = .ok (.getfield 19, 3) := dk_180 0 19 (dk_at dksX0_whyNot_0 21 rfl rfl)
theorem dX0_whyNot_24 : decode cX0_whyNot 24 = .ok (.iload_n 1, 1) := dk_27 (dk_at dksX0_whyNot_1 0 rfl rfl)
theorem dX0_whyNot_25 : decode cX0_whyNot 25 = .ok (.aaload, 1) := dk_50 (dk_at dksX0_whyNot_1 1 rfl rfl)
theorem dX0_whyNot_26 : decode cX0_whyNot 26 = .ok (.astore_n 2, 1) := dk_77 (dk_at dksX0_whyNot_1 2 rfl rfl)
theorem dX0_whyNot_27 : decode cX0_whyNot 27 = .ok (.aload_n 2, 1) := dk_44 (dk_at dksX0_whyNot_1 3 rfl rfl)
theorem dX0_whyNot_28 : decode cX0_whyNot 28 = .ok (.getfield 357, 3) := dk_180 1 101 (dk_at dksX0_whyNot_1 4 rfl rfl)
theorem dX0_whyNot_31 : decode cX0_whyNot 31 = .ok (.ifnonnull 6, 3) := dk_199 0 6 (dk_at dksX0_whyNot_1 7 rfl rfl)
theorem dX0_whyNot_34 : decode cX0_whyNot 34 = .ok (.bipush (-6), 2) := dk_16 250 (dk_at dksX0_whyNot_1 10 rfl rfl)
theorem dX0_whyNot_36 : decode cX0_whyNot 36 = .ok (.ireturn, 1) := dk_172 (dk_at dksX0_whyNot_1 12 rfl rfl)
theorem dX0_whyNot_37 : decode cX0_whyNot 37 = .ok (.aload_n 2, 1) := dk_44 (dk_at dksX0_whyNot_1 13 rfl rfl)
theorem dX0_whyNot_38 : decode cX0_whyNot 38 = .ok (.invokevirtual 361, 3) := dk_182 1 105 (dk_at dksX0_whyNot_1 14 rfl rfl)
theorem dX0_whyNot_41 : decode cX0_whyNot 41 = .ok (.iconst 3, 1) := dk_6 (dk_at dksX0_whyNot_1 17 rfl rfl)
theorem dX0_whyNot_42 : decode cX0_whyNot 42 = .ok (.irem, 1) := dk_112 (dk_at dksX0_whyNot_1 18 rfl rfl)
theorem dX0_whyNot_43 : decode cX0_whyNot 43 = .ok (.ifCond .eq 6, 3) := dk_153 0 6 (dk_at dksX0_whyNot_1 19 rfl rfl)
theorem dX0_whyNot_46 : decode cX0_whyNot 46 = .ok (.bipush (-2), 2) := dk_16 254 (dk_at dksX0_whyNot_1 22 rfl rfl)
theorem dX0_whyNot_48 : decode cX0_whyNot 48 = .ok (.ireturn, 1) := dk_172 (dk_at dksX0_whyNot_2 0 rfl rfl)
theorem dX0_whyNot_49 : decode cX0_whyNot 49 = .ok (.iconst 0, 1) := dk_3 (dk_at dksX0_whyNot_2 1 rfl rfl)
theorem dX0_whyNot_50 : decode cX0_whyNot 50 = .ok (.istore_n 3, 1) := dk_62 (dk_at dksX0_whyNot_2 2 rfl rfl)
theorem dX0_whyNot_51 : decode cX0_whyNot 51 = .ok (.iload_n 3, 1) := dk_29 (dk_at dksX0_whyNot_2 3 rfl rfl)
theorem dX0_whyNot_52 : decode cX0_whyNot 52 = .ok (.aload_n 2, 1) := dk_44 (dk_at dksX0_whyNot_2 4 rfl rfl)
theorem dX0_whyNot_53 : decode cX0_whyNot 53 = .ok (.invokevirtual 361, 3) := dk_182 1 105 (dk_at dksX0_whyNot_2 5 rfl rfl)
theorem dX0_whyNot_56 : decode cX0_whyNot 56 = .ok (.if_icmp .ge 55, 3) := dk_162 0 55 (dk_at dksX0_whyNot_2 8 rfl rfl)
theorem dX0_whyNot_59 : decode cX0_whyNot 59 = .ok (.aload_n 0, 1) := dk_42 (dk_at dksX0_whyNot_2 11 rfl rfl)
theorem dX0_whyNot_60 : decode cX0_whyNot 60 = .ok (.aload_n 2, 1) := dk_44 (dk_at dksX0_whyNot_2 12 rfl rfl)
theorem dX0_whyNot_61 : decode cX0_whyNot 61 = .ok (.iload_n 3, 1) := dk_29 (dk_at dksX0_whyNot_2 13 rfl rfl)
theorem dX0_whyNot_62 : decode cX0_whyNot 62 = .ok (.invokevirtual 362, 3) := dk_182 1 106 (dk_at dksX0_whyNot_2 14 rfl rfl)
theorem dX0_whyNot_65 : decode cX0_whyNot 65 = .ok (.invokevirtual 138, 3) := dk_182 0 138 (dk_at dksX0_whyNot_2 17 rfl rfl)
theorem dX0_whyNot_68 : decode cX0_whyNot 68 = .ok (.ifCond .eq 34, 3) := dk_153 0 34 (dk_at dksX0_whyNot_2 20 rfl rfl)
theorem dX0_whyNot_71 : decode cX0_whyNot 71 = .ok (.aload_n 2, 1) := dk_44 (dk_at dksX0_whyNot_2 23 rfl rfl)
theorem dX0_whyNot_72 : decode cX0_whyNot 72 = .ok (.iload_n 3, 1) := dk_29 (dk_at dksX0_whyNot_3 0 rfl rfl)
theorem dX0_whyNot_73 : decode cX0_whyNot 73 = .ok (.iconst 1, 1) := dk_4 (dk_at dksX0_whyNot_3 1 rfl rfl)
theorem dX0_whyNot_74 : decode cX0_whyNot 74 = .ok (.iadd, 1) := dk_96 (dk_at dksX0_whyNot_3 2 rfl rfl)
theorem dX0_whyNot_75 : decode cX0_whyNot 75 = .ok (.invokevirtual 362, 3) := dk_182 1 106 (dk_at dksX0_whyNot_3 3 rfl rfl)
theorem dX0_whyNot_78 : decode cX0_whyNot 78 = .ok (.lconst 0, 1) := dk_9 (dk_at dksX0_whyNot_3 6 rfl rfl)
theorem dX0_whyNot_79 : decode cX0_whyNot 79 = .ok (.ldc2_w 239, 3) := dk_20 0 239 (dk_at dksX0_whyNot_3 7 rfl rfl)
theorem dX0_whyNot_82 : decode cX0_whyNot 82 = .ok (.invokestatic 11, 3) := dk_184 0 11 (dk_at dksX0_whyNot_3 10 rfl rfl)
theorem dX0_whyNot_85 : decode cX0_whyNot 85 = .ok (.ifCond .eq 17, 3) := dk_153 0 17 (dk_at dksX0_whyNot_3 13 rfl rfl)
theorem dX0_whyNot_88 : decode cX0_whyNot 88 = .ok (.aload_n 0, 1) := dk_42 (dk_at dksX0_whyNot_3 16 rfl rfl)
theorem dX0_whyNot_89 : decode cX0_whyNot 89 = .ok (.aload_n 2, 1) := dk_44 (dk_at dksX0_whyNot_3 17 rfl rfl)
theorem dX0_whyNot_90 : decode cX0_whyNot 90 = .ok (.iload_n 3, 1) := dk_29 (dk_at dksX0_whyNot_3 18 rfl rfl)
theorem dX0_whyNot_91 : decode cX0_whyNot 91 = .ok (.iconst 2, 1) := dk_5 (dk_at dksX0_whyNot_3 19 rfl rfl)
theorem dX0_whyNot_92 : decode cX0_whyNot 92 = .ok (.iadd, 1) := dk_96 (dk_at dksX0_whyNot_3 20 rfl rfl)
theorem dX0_whyNot_93 : decode cX0_whyNot 93 = .ok (.invokevirtual 362, 3) := dk_182 1 106 (dk_at dksX0_whyNot_3 21 rfl rfl)
theorem dX0_whyNot_96 : decode cX0_whyNot 96 = .ok (.invokevirtual 206, 3) := dk_182 0 206 (dk_at dksX0_whyNot_4 0 rfl rfl)
theorem dX0_whyNot_99 : decode cX0_whyNot 99 = .ok (.ifCond .ne 6, 3) := dk_154 0 6 (dk_at dksX0_whyNot_4 3 rfl rfl)
theorem dX0_whyNot_102 : decode cX0_whyNot 102 = .ok (.bipush (-2), 2) := dk_16 254 (dk_at dksX0_whyNot_4 6 rfl rfl)
theorem dX0_whyNot_104 : decode cX0_whyNot 104 = .ok (.ireturn, 1) := dk_172 (dk_at dksX0_whyNot_4 8 rfl rfl)
theorem dX0_whyNot_105 : decode cX0_whyNot 105 = .ok (.iinc 3 3, 3) := dk_132 3 3 (dk_at dksX0_whyNot_4 9 rfl rfl)
theorem dX0_whyNot_108 : decode cX0_whyNot 108 = .ok (.goto (-57), 3) := dk_167 255 199 (dk_at dksX0_whyNot_4 12 rfl rfl)
theorem dX0_whyNot_111 : decode cX0_whyNot 111 = .ok (.iconst 0, 1) := dk_3 (dk_at dksX0_whyNot_4 15 rfl rfl)
theorem dX0_whyNot_112 : decode cX0_whyNot 112 = .ok (.ireturn, 1) := dk_172 (dk_at dksX0_whyNot_4 16 rfl rfl)
abbrev cX0_isSo : ByteArray := prog_1_method_77_code
def yX0_isSo : MethodName := ⟨RX0, "isSo", "(LWidowRoads$Slot;)Z"⟩
def dkwX0_isSo_2 : List UInt8 := [132, 2, 3, 167, 255, 209, 4, 172]
abbrev dktX0_isSo_2 : List UInt8 := dkwX0_isSo_2 ++ []
def dkwX0_isSo_1 : List UInt8 := [182, 1, 106, 136, 182, 0, 241, 43, 28, 5, 96, 182, 1, 106, 184, 0, 213, 159, 0, 5, 3, 172]
abbrev dktX0_isSo_1 : List UInt8 := dkwX0_isSo_1 ++ dktX0_isSo_2
def dkwX0_isSo_0 : List UInt8 := [3, 61, 28, 43, 182, 1, 105, 162, 0, 45, 42, 180, 0, 68, 43, 28, 182, 1, 106, 136, 43, 28, 4, 96]
abbrev dktX0_isSo_0 : List UInt8 := dkwX0_isSo_0 ++ dktX0_isSo_1
theorem dksX0_isSo_0 : cX0_isSo.data.toList.drop 0 = dktX0_isSo_0 := by decide +kernel
theorem dksX0_isSo_1 : cX0_isSo.data.toList.drop 24 = dktX0_isSo_1 := dk_seg dksX0_isSo_0 24 rfl rfl
theorem dksX0_isSo_2 : cX0_isSo.data.toList.drop 46 = dktX0_isSo_2 := dk_seg dksX0_isSo_1 22 rfl rfl
theorem dX0_isSo_0 : decode cX0_isSo 0 = .ok (.iconst 0, 1) := dk_3 (dk_at dksX0_isSo_0 0 rfl rfl)
theorem dX0_isSo_1 : decode cX0_isSo 1 = .ok (.istore_n 2, 1) := dk_61 (dk_at dksX0_isSo_0 1 rfl rfl)
theorem dX0_isSo_2 : decode cX0_isSo 2 = .ok (.iload_n 2, 1) := dk_28 (dk_at dksX0_isSo_0 2 rfl rfl)
theorem dX0_isSo_3 : decode cX0_isSo 3 = .ok (.aload_n 1, 1) := dk_43 (dk_at dksX0_isSo_0 3 rfl rfl)
theorem dX0_isSo_4 : decode cX0_isSo 4 = .ok (.invokevirtual 361, 3) := dk_182 1 105 (dk_at dksX0_isSo_0 4 rfl rfl)
theorem dX0_isSo_7 : decode cX0_isSo 7 = .ok (.if_icmp .ge 45, 3) := dk_162 0 45 (dk_at dksX0_isSo_0 7 rfl rfl)
theorem dX0_isSo_10 : decode cX0_isSo 10 = .ok (.aload_n 0, 1) := dk_42 (dk_at dksX0_isSo_0 10 rfl rfl)
theorem dX0_isSo_11 : decode cX0_isSo 11 = .ok (.getfield 68, 3) := dk_180 0 68 (dk_at dksX0_isSo_0 11 rfl rfl)
theorem dX0_isSo_14 : decode cX0_isSo 14 = .ok (.aload_n 1, 1) := dk_43 (dk_at dksX0_isSo_0 14 rfl rfl)
theorem dX0_isSo_15 : decode cX0_isSo 15 = .ok (.iload_n 2, 1) := dk_28 (dk_at dksX0_isSo_0 15 rfl rfl)
theorem dX0_isSo_16 : decode cX0_isSo 16 = .ok (.invokevirtual 362, 3) := dk_182 1 106 (dk_at dksX0_isSo_0 16 rfl rfl)
theorem dX0_isSo_19 : decode cX0_isSo 19 = .ok (.l2i, 1) := dk_136 (dk_at dksX0_isSo_0 19 rfl rfl)
theorem dX0_isSo_20 : decode cX0_isSo 20 = .ok (.aload_n 1, 1) := dk_43 (dk_at dksX0_isSo_0 20 rfl rfl)
theorem dX0_isSo_21 : decode cX0_isSo 21 = .ok (.iload_n 2, 1) := dk_28 (dk_at dksX0_isSo_0 21 rfl rfl)
theorem dX0_isSo_22 : decode cX0_isSo 22 = .ok (.iconst 1, 1) := dk_4 (dk_at dksX0_isSo_0 22 rfl rfl)
theorem dX0_isSo_23 : decode cX0_isSo 23 = .ok (.iadd, 1) := dk_96 (dk_at dksX0_isSo_0 23 rfl rfl)
theorem dX0_isSo_24 : decode cX0_isSo 24 = .ok (.invokevirtual 362, 3) := dk_182 1 106 (dk_at dksX0_isSo_1 0 rfl rfl)
theorem dX0_isSo_27 : decode cX0_isSo 27 = .ok (.l2i, 1) := dk_136 (dk_at dksX0_isSo_1 3 rfl rfl)
theorem dX0_isSo_28 : decode cX0_isSo 28 = .ok (.invokevirtual 241, 3) := dk_182 0 241 (dk_at dksX0_isSo_1 4 rfl rfl)
theorem dX0_isSo_31 : decode cX0_isSo 31 = .ok (.aload_n 1, 1) := dk_43 (dk_at dksX0_isSo_1 7 rfl rfl)
theorem dX0_isSo_32 : decode cX0_isSo 32 = .ok (.iload_n 2, 1) := dk_28 (dk_at dksX0_isSo_1 8 rfl rfl)
theorem dX0_isSo_33 : decode cX0_isSo 33 = .ok (.iconst 2, 1) := dk_5 (dk_at dksX0_isSo_1 9 rfl rfl)
theorem dX0_isSo_34 : decode cX0_isSo 34 = .ok (.iadd, 1) := dk_96 (dk_at dksX0_isSo_1 10 rfl rfl)
theorem dX0_isSo_35 : decode cX0_isSo 35 = .ok (.invokevirtual 362, 3) := dk_182 1 106 (dk_at dksX0_isSo_1 11 rfl rfl)
theorem dX0_isSo_38 : decode cX0_isSo 38 = .ok (.invokestatic 213, 3) := dk_184 0 213 (dk_at dksX0_isSo_1 14 rfl rfl)
theorem dX0_isSo_41 : decode cX0_isSo 41 = .ok (.if_icmp .eq 5, 3) := dk_159 0 5 (dk_at dksX0_isSo_1 17 rfl rfl)
theorem dX0_isSo_44 : decode cX0_isSo 44 = .ok (.iconst 0, 1) := dk_3 (dk_at dksX0_isSo_1 20 rfl rfl)
theorem dX0_isSo_45 : decode cX0_isSo 45 = .ok (.ireturn, 1) := dk_172 (dk_at dksX0_isSo_1 21 rfl rfl)
theorem dX0_isSo_46 : decode cX0_isSo 46 = .ok (.iinc 2 3, 3) := dk_132 2 3 (dk_at dksX0_isSo_2 0 rfl rfl)
theorem dX0_isSo_49 : decode cX0_isSo 49 = .ok (.goto (-47), 3) := dk_167 255 209 (dk_at dksX0_isSo_2 3 rfl rfl)
theorem dX0_isSo_52 : decode cX0_isSo 52 = .ok (.iconst 1, 1) := dk_4 (dk_at dksX0_isSo_2 6 rfl rfl)
theorem dX0_isSo_53 : decode cX0_isSo 53 = .ok (.ireturn, 1) := dk_172 (dk_at dksX0_isSo_2 7 rfl rfl)
abbrev cX0_ask : ByteArray := prog_1_method_79_code
def yX0_ask : MethodName := ⟨RX0, "ask", "(II)I"⟩
def dkwX0_ask_1 : List UInt8 := [50, 28, 182, 1, 115, 180, 1, 121, 172]
abbrev dktX0_ask_1 : List UInt8 := dkwX0_ask_1 ++ []
def dkwX0_ask_0 : List UInt8 := [42, 27, 28, 182, 1, 112, 62, 29, 153, 0, 7, 29, 167, 0, 20, 42, 180, 0, 82, 42, 180, 0, 19, 27]
abbrev dktX0_ask_0 : List UInt8 := dkwX0_ask_0 ++ dktX0_ask_1
theorem dksX0_ask_0 : cX0_ask.data.toList.drop 0 = dktX0_ask_0 := by decide +kernel
theorem dksX0_ask_1 : cX0_ask.data.toList.drop 24 = dktX0_ask_1 := dk_seg dksX0_ask_0 24 rfl rfl
theorem dX0_ask_0 : decode cX0_ask 0 = .ok (.aload_n 0, 1) := dk_42 (dk_at dksX0_ask_0 0 rfl rfl)
theorem dX0_ask_1 : decode cX0_ask 1 = .ok (.iload_n 1, 1) := dk_27 (dk_at dksX0_ask_0 1 rfl rfl)
theorem dX0_ask_2 : decode cX0_ask 2 = .ok (.iload_n 2, 1) := dk_28 (dk_at dksX0_ask_0 2 rfl rfl)
theorem dX0_ask_3 : decode cX0_ask 3 = .ok (.invokevirtual 368, 3) := dk_182 1 112 (dk_at dksX0_ask_0 3 rfl rfl)
theorem dX0_ask_6 : decode cX0_ask 6 = .ok (.istore_n 3, 1) := dk_62 (dk_at dksX0_ask_0 6 rfl rfl)
theorem dX0_ask_7 : decode cX0_ask 7 = .ok (.iload_n 3, 1) := dk_29 (dk_at dksX0_ask_0 7 rfl rfl)
theorem dX0_ask_8 : decode cX0_ask 8 = .ok (.ifCond .eq 7, 3) := dk_153 0 7 (dk_at dksX0_ask_0 8 rfl rfl)
theorem dX0_ask_11 : decode cX0_ask 11 = .ok (.iload_n 3, 1) := dk_29 (dk_at dksX0_ask_0 11 rfl rfl)
theorem dX0_ask_12 : decode cX0_ask 12 = .ok (.goto 20, 3) := dk_167 0 20 (dk_at dksX0_ask_0 12 rfl rfl)
theorem dX0_ask_15 : decode cX0_ask 15 = .ok (.aload_n 0, 1) := dk_42 (dk_at dksX0_ask_0 15 rfl rfl)
theorem dX0_ask_16 : decode cX0_ask 16 = .ok (.getfield 82, 3) := dk_180 0 82 (dk_at dksX0_ask_0 16 rfl rfl)
theorem dX0_ask_19 : decode cX0_ask 19 = .ok (.aload_n 0, 1) := dk_42 (dk_at dksX0_ask_0 19 rfl rfl)
theorem dX0_ask_20 : decode cX0_ask 20 = .ok (.getfield 19, 3) := dk_180 0 19 (dk_at dksX0_ask_0 20 rfl rfl)
theorem dX0_ask_23 : decode cX0_ask 23 = .ok (.iload_n 1, 1) := dk_27 (dk_at dksX0_ask_0 23 rfl rfl)
theorem dX0_ask_24 : decode cX0_ask 24 = .ok (.aaload, 1) := dk_50 (dk_at dksX0_ask_1 0 rfl rfl)
theorem dX0_ask_25 : decode cX0_ask 25 = .ok (.iload_n 2, 1) := dk_28 (dk_at dksX0_ask_1 1 rfl rfl)
theorem dX0_ask_26 : decode cX0_ask 26 = .ok (.invokevirtual 371, 3) := dk_182 1 115 (dk_at dksX0_ask_1 2 rfl rfl)
theorem dX0_ask_29 : decode cX0_ask 29 = .ok (.getfield 377, 3) := dk_180 1 121 (dk_at dksX0_ask_1 5 rfl rfl)
theorem dX0_ask_32 : decode cX0_ask 32 = .ok (.ireturn, 1) := dk_172 (dk_at dksX0_ask_1 8 rfl rfl)
abbrev cX0_leaves : ByteArray := prog_1_method_80_code
def yX0_leaves : MethodName := ⟨RX0, "leaves", "(II)I"⟩
def dkwX0_leaves_1 : List UInt8 := [50, 28, 182, 1, 115, 180, 1, 124, 172]
abbrev dktX0_leaves_1 : List UInt8 := dkwX0_leaves_1 ++ []
def dkwX0_leaves_0 : List UInt8 := [42, 27, 28, 182, 1, 112, 62, 29, 153, 0, 7, 29, 167, 0, 20, 42, 180, 0, 82, 42, 180, 0, 19, 27]
abbrev dktX0_leaves_0 : List UInt8 := dkwX0_leaves_0 ++ dktX0_leaves_1
theorem dksX0_leaves_0 : cX0_leaves.data.toList.drop 0 = dktX0_leaves_0 := by decide +kernel
theorem dksX0_leaves_1 : cX0_leaves.data.toList.drop 24 = dktX0_leaves_1 := dk_seg dksX0_leaves_0 24 rfl rfl
theorem dX0_leaves_0 : decode cX0_leaves 0 = .ok (.aload_n 0, 1) := dk_42 (dk_at dksX0_leaves_0 0 rfl rfl)
theorem dX0_leaves_1 : decode cX0_leaves 1 = .ok (.iload_n 1, 1) := dk_27 (dk_at dksX0_leaves_0 1 rfl rfl)
theorem dX0_leaves_2 : decode cX0_leaves 2 = .ok (.iload_n 2, 1) := dk_28 (dk_at dksX0_leaves_0 2 rfl rfl)
theorem dX0_leaves_3 : decode cX0_leaves 3 = .ok (.invokevirtual 368, 3) := dk_182 1 112 (dk_at dksX0_leaves_0 3 rfl rfl)
theorem dX0_leaves_6 : decode cX0_leaves 6 = .ok (.istore_n 3, 1) := dk_62 (dk_at dksX0_leaves_0 6 rfl rfl)
theorem dX0_leaves_7 : decode cX0_leaves 7 = .ok (.iload_n 3, 1) := dk_29 (dk_at dksX0_leaves_0 7 rfl rfl)
theorem dX0_leaves_8 : decode cX0_leaves 8 = .ok (.ifCond .eq 7, 3) := dk_153 0 7 (dk_at dksX0_leaves_0 8 rfl rfl)
theorem dX0_leaves_11 : decode cX0_leaves 11 = .ok (.iload_n 3, 1) := dk_29 (dk_at dksX0_leaves_0 11 rfl rfl)
theorem dX0_leaves_12 : decode cX0_leaves 12 = .ok (.goto 20, 3) := dk_167 0 20 (dk_at dksX0_leaves_0 12 rfl rfl)
theorem dX0_leaves_15 : decode cX0_leaves 15 = .ok (.aload_n 0, 1) := dk_42 (dk_at dksX0_leaves_0 15 rfl rfl)
theorem dX0_leaves_16 : decode cX0_leaves 16 = .ok (.getfield 82, 3) := dk_180 0 82 (dk_at dksX0_leaves_0 16 rfl rfl)
theorem dX0_leaves_19 : decode cX0_leaves 19 = .ok (.aload_n 0, 1) := dk_42 (dk_at dksX0_leaves_0 19 rfl rfl)
theorem dX0_leaves_20 : decode cX0_leaves 20 = .ok (.getfield 19, 3) := dk_180 0 19 (dk_at dksX0_leaves_0 20 rfl rfl)
theorem dX0_leaves_23 : decode cX0_leaves 23 = .ok (.iload_n 1, 1) := dk_27 (dk_at dksX0_leaves_0 23 rfl rfl)
theorem dX0_leaves_24 : decode cX0_leaves 24 = .ok (.aaload, 1) := dk_50 (dk_at dksX0_leaves_1 0 rfl rfl)
theorem dX0_leaves_25 : decode cX0_leaves 25 = .ok (.iload_n 2, 1) := dk_28 (dk_at dksX0_leaves_1 1 rfl rfl)
theorem dX0_leaves_26 : decode cX0_leaves 26 = .ok (.invokevirtual 371, 3) := dk_182 1 115 (dk_at dksX0_leaves_1 2 rfl rfl)
theorem dX0_leaves_29 : decode cX0_leaves 29 = .ok (.getfield 380, 3) := dk_180 1 124 (dk_at dksX0_leaves_1 5 rfl rfl)
theorem dX0_leaves_32 : decode cX0_leaves 32 = .ok (.ireturn, 1) := dk_172 (dk_at dksX0_leaves_1 8 rfl rfl)
abbrev cX0_griefs : ByteArray := prog_1_method_81_code
def yX0_griefs : MethodName := ⟨RX0, "griefs", "(II)I"⟩
def dkwX0_griefs_3 : List UInt8 := [128, 54, 4, 132, 5, 1, 167, 255, 199, 21, 4, 172]
abbrev dktX0_griefs_3 : List UInt8 := dkwX0_griefs_3 ++ []
def dkwX0_griefs_2 : List UInt8 := [87, 21, 4, 42, 42, 180, 0, 19, 27, 50, 182, 1, 130, 153, 0, 10, 4, 21, 5, 120, 167, 0, 4, 3]
abbrev dktX0_griefs_2 : List UInt8 := dkwX0_griefs_2 ++ dktX0_griefs_3
def dkwX0_griefs_1 : List UInt8 := [162, 0, 57, 42, 180, 0, 68, 182, 0, 188, 180, 1, 127, 28, 21, 5, 79, 42, 180, 0, 68, 182, 0, 191]
abbrev dktX0_griefs_1 : List UInt8 := dkwX0_griefs_1 ++ dktX0_griefs_2
def dkwX0_griefs_0 : List UInt8 := [42, 27, 28, 182, 1, 112, 62, 29, 153, 0, 5, 29, 172, 3, 54, 4, 3, 54, 5, 21, 5, 7]
abbrev dktX0_griefs_0 : List UInt8 := dkwX0_griefs_0 ++ dktX0_griefs_1
theorem dksX0_griefs_0 : cX0_griefs.data.toList.drop 0 = dktX0_griefs_0 := by decide +kernel
theorem dksX0_griefs_1 : cX0_griefs.data.toList.drop 22 = dktX0_griefs_1 := dk_seg dksX0_griefs_0 22 rfl rfl
theorem dksX0_griefs_2 : cX0_griefs.data.toList.drop 46 = dktX0_griefs_2 := dk_seg dksX0_griefs_1 24 rfl rfl
theorem dksX0_griefs_3 : cX0_griefs.data.toList.drop 70 = dktX0_griefs_3 := dk_seg dksX0_griefs_2 24 rfl rfl
theorem dX0_griefs_0 : decode cX0_griefs 0 = .ok (.aload_n 0, 1) := dk_42 (dk_at dksX0_griefs_0 0 rfl rfl)
theorem dX0_griefs_1 : decode cX0_griefs 1 = .ok (.iload_n 1, 1) := dk_27 (dk_at dksX0_griefs_0 1 rfl rfl)
theorem dX0_griefs_2 : decode cX0_griefs 2 = .ok (.iload_n 2, 1) := dk_28 (dk_at dksX0_griefs_0 2 rfl rfl)
theorem dX0_griefs_3 : decode cX0_griefs 3 = .ok (.invokevirtual 368, 3) := dk_182 1 112 (dk_at dksX0_griefs_0 3 rfl rfl)
theorem dX0_griefs_6 : decode cX0_griefs 6 = .ok (.istore_n 3, 1) := dk_62 (dk_at dksX0_griefs_0 6 rfl rfl)
theorem dX0_griefs_7 : decode cX0_griefs 7 = .ok (.iload_n 3, 1) := dk_29 (dk_at dksX0_griefs_0 7 rfl rfl)
theorem dX0_griefs_8 : decode cX0_griefs 8 = .ok (.ifCond .eq 5, 3) := dk_153 0 5 (dk_at dksX0_griefs_0 8 rfl rfl)
theorem dX0_griefs_11 : decode cX0_griefs 11 = .ok (.iload_n 3, 1) := dk_29 (dk_at dksX0_griefs_0 11 rfl rfl)
theorem dX0_griefs_12 : decode cX0_griefs 12 = .ok (.ireturn, 1) := dk_172 (dk_at dksX0_griefs_0 12 rfl rfl)
theorem dX0_griefs_13 : decode cX0_griefs 13 = .ok (.iconst 0, 1) := dk_3 (dk_at dksX0_griefs_0 13 rfl rfl)
theorem dX0_griefs_14 : decode cX0_griefs 14 = .ok (.istore 4, 2) := dk_54 4 (dk_at dksX0_griefs_0 14 rfl rfl)
theorem dX0_griefs_16 : decode cX0_griefs 16 = .ok (.iconst 0, 1) := dk_3 (dk_at dksX0_griefs_0 16 rfl rfl)
theorem dX0_griefs_17 : decode cX0_griefs 17 = .ok (.istore 5, 2) := dk_54 5 (dk_at dksX0_griefs_0 17 rfl rfl)
theorem dX0_griefs_19 : decode cX0_griefs 19 = .ok (.iload 5, 2) := dk_21 5 (dk_at dksX0_griefs_0 19 rfl rfl)
theorem dX0_griefs_21 : decode cX0_griefs 21 = .ok (.iconst 4, 1) := dk_7 (dk_at dksX0_griefs_0 21 rfl rfl)
theorem dX0_griefs_22 : decode cX0_griefs 22 = .ok (.if_icmp .ge 57, 3) := dk_162 0 57 (dk_at dksX0_griefs_1 0 rfl rfl)
theorem dX0_griefs_25 : decode cX0_griefs 25 = .ok (.aload_n 0, 1) := dk_42 (dk_at dksX0_griefs_1 3 rfl rfl)
theorem dX0_griefs_26 : decode cX0_griefs 26 = .ok (.getfield 68, 3) := dk_180 0 68 (dk_at dksX0_griefs_1 4 rfl rfl)
theorem dX0_griefs_29 : decode cX0_griefs 29 = .ok (.invokevirtual 188, 3) := dk_182 0 188 (dk_at dksX0_griefs_1 7 rfl rfl)
theorem dX0_griefs_32 : decode cX0_griefs 32 = .ok (.getfield 383, 3) := dk_180 1 127 (dk_at dksX0_griefs_1 10 rfl rfl)
theorem dX0_griefs_35 : decode cX0_griefs 35 = .ok (.iload_n 2, 1) := dk_28 (dk_at dksX0_griefs_1 13 rfl rfl)
theorem dX0_griefs_36 : decode cX0_griefs 36 = .ok (.iload 5, 2) := dk_21 5 (dk_at dksX0_griefs_1 14 rfl rfl)
theorem dX0_griefs_38 : decode cX0_griefs 38 = .ok (.iastore, 1) := dk_79 (dk_at dksX0_griefs_1 16 rfl rfl)
theorem dX0_griefs_39 : decode cX0_griefs 39 = .ok (.aload_n 0, 1) := dk_42 (dk_at dksX0_griefs_1 17 rfl rfl)
theorem dX0_griefs_40 : decode cX0_griefs 40 = .ok (.getfield 68, 3) := dk_180 0 68 (dk_at dksX0_griefs_1 18 rfl rfl)
theorem dX0_griefs_43 : decode cX0_griefs 43 = .ok (.invokevirtual 191, 3) := dk_182 0 191 (dk_at dksX0_griefs_1 21 rfl rfl)
theorem dX0_griefs_46 : decode cX0_griefs 46 = .ok (.pop, 1) := dk_87 (dk_at dksX0_griefs_2 0 rfl rfl)
theorem dX0_griefs_47 : decode cX0_griefs 47 = .ok (.iload 4, 2) := dk_21 4 (dk_at dksX0_griefs_2 1 rfl rfl)
theorem dX0_griefs_49 : decode cX0_griefs 49 = .ok (.aload_n 0, 1) := dk_42 (dk_at dksX0_griefs_2 3 rfl rfl)
theorem dX0_griefs_50 : decode cX0_griefs 50 = .ok (.aload_n 0, 1) := dk_42 (dk_at dksX0_griefs_2 4 rfl rfl)
theorem dX0_griefs_51 : decode cX0_griefs 51 = .ok (.getfield 19, 3) := dk_180 0 19 (dk_at dksX0_griefs_2 5 rfl rfl)
theorem dX0_griefs_54 : decode cX0_griefs 54 = .ok (.iload_n 1, 1) := dk_27 (dk_at dksX0_griefs_2 8 rfl rfl)
theorem dX0_griefs_55 : decode cX0_griefs 55 = .ok (.aaload, 1) := dk_50 (dk_at dksX0_griefs_2 9 rfl rfl)
theorem dX0_griefs_56 : decode cX0_griefs 56 = .ok (.invokevirtual 386, 3) := dk_182 1 130 (dk_at dksX0_griefs_2 10 rfl rfl)
theorem dX0_griefs_59 : decode cX0_griefs 59 = .ok (.ifCond .eq 10, 3) := dk_153 0 10 (dk_at dksX0_griefs_2 13 rfl rfl)
theorem dX0_griefs_62 : decode cX0_griefs 62 = .ok (.iconst 1, 1) := dk_4 (dk_at dksX0_griefs_2 16 rfl rfl)
theorem dX0_griefs_63 : decode cX0_griefs 63 = .ok (.iload 5, 2) := dk_21 5 (dk_at dksX0_griefs_2 17 rfl rfl)
theorem dX0_griefs_65 : decode cX0_griefs 65 = .ok (.ishl, 1) := dk_120 (dk_at dksX0_griefs_2 19 rfl rfl)
theorem dX0_griefs_66 : decode cX0_griefs 66 = .ok (.goto 4, 3) := dk_167 0 4 (dk_at dksX0_griefs_2 20 rfl rfl)
theorem dX0_griefs_69 : decode cX0_griefs 69 = .ok (.iconst 0, 1) := dk_3 (dk_at dksX0_griefs_2 23 rfl rfl)
theorem dX0_griefs_70 : decode cX0_griefs 70 = .ok (.ior, 1) := dk_128 (dk_at dksX0_griefs_3 0 rfl rfl)
theorem dX0_griefs_71 : decode cX0_griefs 71 = .ok (.istore 4, 2) := dk_54 4 (dk_at dksX0_griefs_3 1 rfl rfl)
theorem dX0_griefs_73 : decode cX0_griefs 73 = .ok (.iinc 5 1, 3) := dk_132 5 1 (dk_at dksX0_griefs_3 3 rfl rfl)
theorem dX0_griefs_76 : decode cX0_griefs 76 = .ok (.goto (-57), 3) := dk_167 255 199 (dk_at dksX0_griefs_3 6 rfl rfl)
theorem dX0_griefs_79 : decode cX0_griefs 79 = .ok (.iload 4, 2) := dk_21 4 (dk_at dksX0_griefs_3 9 rfl rfl)
theorem dX0_griefs_81 : decode cX0_griefs 81 = .ok (.ireturn, 1) := dk_172 (dk_at dksX0_griefs_3 11 rfl rfl)
abbrev cX0_laws : ByteArray := prog_1_method_83_code
def yX0_laws : MethodName := ⟨RX0, "laws", "(I)I"⟩
def dkwX0_laws_2 : List UInt8 := [167, 0, 4, 3, 128, 62, 132, 4, 1, 167, 255, 216, 29, 172]
abbrev dktX0_laws_2 : List UInt8 := dkwX0_laws_2 ++ []
def dkwX0_laws_1 : List UInt8 := [21, 4, 182, 1, 137, 87, 29, 42, 42, 180, 0, 19, 27, 50, 182, 1, 130, 153, 0, 10, 4, 21, 4, 120]
abbrev dktX0_laws_1 : List UInt8 := dkwX0_laws_1 ++ dktX0_laws_2
def dkwX0_laws_0 : List UInt8 := [42, 27, 182, 1, 109, 61, 28, 153, 0, 5, 28, 172, 3, 62, 3, 54, 4, 21, 4, 7, 162, 0, 40, 42]
abbrev dktX0_laws_0 : List UInt8 := dkwX0_laws_0 ++ dktX0_laws_1
theorem dksX0_laws_0 : cX0_laws.data.toList.drop 0 = dktX0_laws_0 := by decide +kernel
theorem dksX0_laws_1 : cX0_laws.data.toList.drop 24 = dktX0_laws_1 := dk_seg dksX0_laws_0 24 rfl rfl
theorem dksX0_laws_2 : cX0_laws.data.toList.drop 48 = dktX0_laws_2 := dk_seg dksX0_laws_1 24 rfl rfl
theorem dX0_laws_0 : decode cX0_laws 0 = .ok (.aload_n 0, 1) := dk_42 (dk_at dksX0_laws_0 0 rfl rfl)
theorem dX0_laws_1 : decode cX0_laws 1 = .ok (.iload_n 1, 1) := dk_27 (dk_at dksX0_laws_0 1 rfl rfl)
theorem dX0_laws_2 : decode cX0_laws 2 = .ok (.invokevirtual 365, 3) := dk_182 1 109 (dk_at dksX0_laws_0 2 rfl rfl)
theorem dX0_laws_5 : decode cX0_laws 5 = .ok (.istore_n 2, 1) := dk_61 (dk_at dksX0_laws_0 5 rfl rfl)
theorem dX0_laws_6 : decode cX0_laws 6 = .ok (.iload_n 2, 1) := dk_28 (dk_at dksX0_laws_0 6 rfl rfl)
theorem dX0_laws_7 : decode cX0_laws 7 = .ok (.ifCond .eq 5, 3) := dk_153 0 5 (dk_at dksX0_laws_0 7 rfl rfl)
theorem dX0_laws_10 : decode cX0_laws 10 = .ok (.iload_n 2, 1) := dk_28 (dk_at dksX0_laws_0 10 rfl rfl)
theorem dX0_laws_11 : decode cX0_laws 11 = .ok (.ireturn, 1) := dk_172 (dk_at dksX0_laws_0 11 rfl rfl)
theorem dX0_laws_12 : decode cX0_laws 12 = .ok (.iconst 0, 1) := dk_3 (dk_at dksX0_laws_0 12 rfl rfl)
theorem dX0_laws_13 : decode cX0_laws 13 = .ok (.istore_n 3, 1) := dk_62 (dk_at dksX0_laws_0 13 rfl rfl)
theorem dX0_laws_14 : decode cX0_laws 14 = .ok (.iconst 0, 1) := dk_3 (dk_at dksX0_laws_0 14 rfl rfl)
theorem dX0_laws_15 : decode cX0_laws 15 = .ok (.istore 4, 2) := dk_54 4 (dk_at dksX0_laws_0 15 rfl rfl)
theorem dX0_laws_17 : decode cX0_laws 17 = .ok (.iload 4, 2) := dk_21 4 (dk_at dksX0_laws_0 17 rfl rfl)
theorem dX0_laws_19 : decode cX0_laws 19 = .ok (.iconst 4, 1) := dk_7 (dk_at dksX0_laws_0 19 rfl rfl)
theorem dX0_laws_20 : decode cX0_laws 20 = .ok (.if_icmp .ge 40, 3) := dk_162 0 40 (dk_at dksX0_laws_0 20 rfl rfl)
theorem dX0_laws_23 : decode cX0_laws 23 = .ok (.aload_n 0, 1) := dk_42 (dk_at dksX0_laws_0 23 rfl rfl)
theorem dX0_laws_24 : decode cX0_laws 24 = .ok (.iload 4, 2) := dk_21 4 (dk_at dksX0_laws_1 0 rfl rfl)
theorem dX0_laws_26 : decode cX0_laws 26 = .ok (.invokevirtual 393, 3) := dk_182 1 137 (dk_at dksX0_laws_1 2 rfl rfl)
theorem dX0_laws_29 : decode cX0_laws 29 = .ok (.pop, 1) := dk_87 (dk_at dksX0_laws_1 5 rfl rfl)
theorem dX0_laws_30 : decode cX0_laws 30 = .ok (.iload_n 3, 1) := dk_29 (dk_at dksX0_laws_1 6 rfl rfl)
theorem dX0_laws_31 : decode cX0_laws 31 = .ok (.aload_n 0, 1) := dk_42 (dk_at dksX0_laws_1 7 rfl rfl)
theorem dX0_laws_32 : decode cX0_laws 32 = .ok (.aload_n 0, 1) := dk_42 (dk_at dksX0_laws_1 8 rfl rfl)
theorem dX0_laws_33 : decode cX0_laws 33 = .ok (.getfield 19, 3) := dk_180 0 19 (dk_at dksX0_laws_1 9 rfl rfl)
theorem dX0_laws_36 : decode cX0_laws 36 = .ok (.iload_n 1, 1) := dk_27 (dk_at dksX0_laws_1 12 rfl rfl)
theorem dX0_laws_37 : decode cX0_laws 37 = .ok (.aaload, 1) := dk_50 (dk_at dksX0_laws_1 13 rfl rfl)
theorem dX0_laws_38 : decode cX0_laws 38 = .ok (.invokevirtual 386, 3) := dk_182 1 130 (dk_at dksX0_laws_1 14 rfl rfl)
theorem dX0_laws_41 : decode cX0_laws 41 = .ok (.ifCond .eq 10, 3) := dk_153 0 10 (dk_at dksX0_laws_1 17 rfl rfl)
theorem dX0_laws_44 : decode cX0_laws 44 = .ok (.iconst 1, 1) := dk_4 (dk_at dksX0_laws_1 20 rfl rfl)
theorem dX0_laws_45 : decode cX0_laws 45 = .ok (.iload 4, 2) := dk_21 4 (dk_at dksX0_laws_1 21 rfl rfl)
theorem dX0_laws_47 : decode cX0_laws 47 = .ok (.ishl, 1) := dk_120 (dk_at dksX0_laws_1 23 rfl rfl)
theorem dX0_laws_48 : decode cX0_laws 48 = .ok (.goto 4, 3) := dk_167 0 4 (dk_at dksX0_laws_2 0 rfl rfl)
theorem dX0_laws_51 : decode cX0_laws 51 = .ok (.iconst 0, 1) := dk_3 (dk_at dksX0_laws_2 3 rfl rfl)
theorem dX0_laws_52 : decode cX0_laws 52 = .ok (.ior, 1) := dk_128 (dk_at dksX0_laws_2 4 rfl rfl)
theorem dX0_laws_53 : decode cX0_laws 53 = .ok (.istore_n 3, 1) := dk_62 (dk_at dksX0_laws_2 5 rfl rfl)
theorem dX0_laws_54 : decode cX0_laws 54 = .ok (.iinc 4 1, 3) := dk_132 4 1 (dk_at dksX0_laws_2 6 rfl rfl)
theorem dX0_laws_57 : decode cX0_laws 57 = .ok (.goto (-40), 3) := dk_167 255 216 (dk_at dksX0_laws_2 9 rfl rfl)
theorem dX0_laws_60 : decode cX0_laws 60 = .ok (.iload_n 3, 1) := dk_29 (dk_at dksX0_laws_2 12 rfl rfl)
theorem dX0_laws_61 : decode cX0_laws 61 = .ok (.ireturn, 1) := dk_172 (dk_at dksX0_laws_2 13 rfl rfl)
abbrev cX0_byLaw : ByteArray := prog_1_method_82_code
def yX0_byLaw : MethodName := ⟨RX0, "byLaw", "(I)LWidowRoads$Walks;"⟩
def dkwX0_byLaw_0 : List UInt8 := [42, 180, 0, 68, 182, 0, 188, 27, 181, 1, 134, 42, 180, 0, 68, 182, 0, 191, 176]
abbrev dktX0_byLaw_0 : List UInt8 := dkwX0_byLaw_0 ++ []
theorem dksX0_byLaw_0 : cX0_byLaw.data.toList.drop 0 = dktX0_byLaw_0 := by decide +kernel
theorem dX0_byLaw_0 : decode cX0_byLaw 0 = .ok (.aload_n 0, 1) := dk_42 (dk_at dksX0_byLaw_0 0 rfl rfl)
theorem dX0_byLaw_1 : decode cX0_byLaw 1 = .ok (.getfield 68, 3) := dk_180 0 68 (dk_at dksX0_byLaw_0 1 rfl rfl)
theorem dX0_byLaw_4 : decode cX0_byLaw 4 = .ok (.invokevirtual 188, 3) := dk_182 0 188 (dk_at dksX0_byLaw_0 4 rfl rfl)
theorem dX0_byLaw_7 : decode cX0_byLaw 7 = .ok (.iload_n 1, 1) := dk_27 (dk_at dksX0_byLaw_0 7 rfl rfl)
theorem dX0_byLaw_8 : decode cX0_byLaw 8 = .ok (.putfield 390, 3) := dk_181 1 134 (dk_at dksX0_byLaw_0 8 rfl rfl)
theorem dX0_byLaw_11 : decode cX0_byLaw 11 = .ok (.aload_n 0, 1) := dk_42 (dk_at dksX0_byLaw_0 11 rfl rfl)
theorem dX0_byLaw_12 : decode cX0_byLaw 12 = .ok (.getfield 68, 3) := dk_180 0 68 (dk_at dksX0_byLaw_0 12 rfl rfl)
theorem dX0_byLaw_15 : decode cX0_byLaw 15 = .ok (.invokevirtual 191, 3) := dk_182 0 191 (dk_at dksX0_byLaw_0 15 rfl rfl)
theorem dX0_byLaw_18 : decode cX0_byLaw 18 = .ok (.areturn, 1) := dk_176 (dk_at dksX0_byLaw_0 18 rfl rfl)
abbrev cX0_by : ByteArray := prog_1_method_84_code
def yX0_by : MethodName := ⟨RX0, "by", "(I)I"⟩
def dkwX0_by_1 : List UInt8 := [182, 1, 95, 167, 0, 5, 16, 254, 172]
abbrev dktX0_by_1 : List UInt8 := dkwX0_by_1 ++ []
def dkwX0_by_0 : List UInt8 := [42, 180, 0, 47, 182, 0, 98, 153, 0, 21, 27, 184, 1, 141, 153, 0, 14, 42, 27, 182, 1, 137]
abbrev dktX0_by_0 : List UInt8 := dkwX0_by_0 ++ dktX0_by_1
theorem dksX0_by_0 : cX0_by.data.toList.drop 0 = dktX0_by_0 := by decide +kernel
theorem dksX0_by_1 : cX0_by.data.toList.drop 22 = dktX0_by_1 := dk_seg dksX0_by_0 22 rfl rfl
theorem dX0_by_0 : decode cX0_by 0 = .ok (.aload_n 0, 1) := dk_42 (dk_at dksX0_by_0 0 rfl rfl)
theorem dX0_by_1 : decode cX0_by 1 = .ok (.getfield 47, 3) := dk_180 0 47 (dk_at dksX0_by_0 1 rfl rfl)
theorem dX0_by_4 : decode cX0_by 4 = .ok (.invokevirtual 98, 3) := dk_182 0 98 (dk_at dksX0_by_0 4 rfl rfl)
theorem dX0_by_7 : decode cX0_by 7 = .ok (.ifCond .eq 21, 3) := dk_153 0 21 (dk_at dksX0_by_0 7 rfl rfl)
theorem dX0_by_10 : decode cX0_by 10 = .ok (.iload_n 1, 1) := dk_27 (dk_at dksX0_by_0 10 rfl rfl)
theorem dX0_by_11 : decode cX0_by 11 = .ok (.invokestatic 397, 3) := dk_184 1 141 (dk_at dksX0_by_0 11 rfl rfl)
theorem dX0_by_14 : decode cX0_by 14 = .ok (.ifCond .eq 14, 3) := dk_153 0 14 (dk_at dksX0_by_0 14 rfl rfl)
theorem dX0_by_17 : decode cX0_by 17 = .ok (.aload_n 0, 1) := dk_42 (dk_at dksX0_by_0 17 rfl rfl)
theorem dX0_by_18 : decode cX0_by 18 = .ok (.iload_n 1, 1) := dk_27 (dk_at dksX0_by_0 18 rfl rfl)
theorem dX0_by_19 : decode cX0_by 19 = .ok (.invokevirtual 393, 3) := dk_182 1 137 (dk_at dksX0_by_0 19 rfl rfl)
theorem dX0_by_22 : decode cX0_by 22 = .ok (.invokevirtual 351, 3) := dk_182 1 95 (dk_at dksX0_by_1 0 rfl rfl)
theorem dX0_by_25 : decode cX0_by 25 = .ok (.goto 5, 3) := dk_167 0 5 (dk_at dksX0_by_1 3 rfl rfl)
theorem dX0_by_28 : decode cX0_by 28 = .ok (.bipush (-2), 2) := dk_16 254 (dk_at dksX0_by_1 6 rfl rfl)
theorem dX0_by_30 : decode cX0_by 30 = .ok (.ireturn, 1) := dk_172 (dk_at dksX0_by_1 8 rfl rfl)
abbrev cX0_isLaw : ByteArray := prog_1_method_21_code
def yX0_isLaw : MethodName := ⟨RX0, "isLaw", "(I)Z"⟩
def dkwX0_isLaw_0 : List UInt8 := [26, 133, 9, 20, 0, 9, 184, 0, 11, 172]
abbrev dktX0_isLaw_0 : List UInt8 := dkwX0_isLaw_0 ++ []
theorem dksX0_isLaw_0 : cX0_isLaw.data.toList.drop 0 = dktX0_isLaw_0 := by decide +kernel
theorem dX0_isLaw_0 : decode cX0_isLaw 0 = .ok (.iload_n 0, 1) := dk_26 (dk_at dksX0_isLaw_0 0 rfl rfl)
theorem dX0_isLaw_1 : decode cX0_isLaw 1 = .ok (.i2l, 1) := dk_133 (dk_at dksX0_isLaw_0 1 rfl rfl)
theorem dX0_isLaw_2 : decode cX0_isLaw 2 = .ok (.lconst 0, 1) := dk_9 (dk_at dksX0_isLaw_0 2 rfl rfl)
theorem dX0_isLaw_3 : decode cX0_isLaw 3 = .ok (.ldc2_w 9, 3) := dk_20 0 9 (dk_at dksX0_isLaw_0 3 rfl rfl)
theorem dX0_isLaw_6 : decode cX0_isLaw 6 = .ok (.invokestatic 11, 3) := dk_184 0 11 (dk_at dksX0_isLaw_0 6 rfl rfl)
theorem dX0_isLaw_9 : decode cX0_isLaw 9 = .ok (.ireturn, 1) := dk_172 (dk_at dksX0_isLaw_0 9 rfl rfl)
abbrev cX0_law : ByteArray := prog_1_method_85_code
def yX0_law : MethodName := ⟨RX0, "law", "()I"⟩
def dkwX0_law_2 : List UInt8 := [167, 255, 227, 27, 172]
abbrev dktX0_law_2 : List UInt8 := dkwX0_law_2 ++ []
def dkwX0_law_1 : List UInt8 := [182, 1, 137, 182, 1, 95, 42, 27, 182, 1, 137, 182, 1, 95, 164, 0, 5, 28, 60, 132, 2, 1]
abbrev dktX0_law_1 : List UInt8 := dkwX0_law_1 ++ dktX0_law_2
def dkwX0_law_0 : List UInt8 := [42, 180, 0, 47, 182, 0, 98, 154, 0, 6, 16, 254, 172, 3, 60, 4, 61, 28, 7, 162, 0, 30, 42, 28]
abbrev dktX0_law_0 : List UInt8 := dkwX0_law_0 ++ dktX0_law_1
theorem dksX0_law_0 : cX0_law.data.toList.drop 0 = dktX0_law_0 := by decide +kernel
theorem dksX0_law_1 : cX0_law.data.toList.drop 24 = dktX0_law_1 := dk_seg dksX0_law_0 24 rfl rfl
theorem dksX0_law_2 : cX0_law.data.toList.drop 46 = dktX0_law_2 := dk_seg dksX0_law_1 22 rfl rfl
theorem dX0_law_0 : decode cX0_law 0 = .ok (.aload_n 0, 1) := dk_42 (dk_at dksX0_law_0 0 rfl rfl)
theorem dX0_law_1 : decode cX0_law 1 = .ok (.getfield 47, 3) := dk_180 0 47 (dk_at dksX0_law_0 1 rfl rfl)
theorem dX0_law_4 : decode cX0_law 4 = .ok (.invokevirtual 98, 3) := dk_182 0 98 (dk_at dksX0_law_0 4 rfl rfl)
theorem dX0_law_7 : decode cX0_law 7 = .ok (.ifCond .ne 6, 3) := dk_154 0 6 (dk_at dksX0_law_0 7 rfl rfl)
theorem dX0_law_10 : decode cX0_law 10 = .ok (.bipush (-2), 2) := dk_16 254 (dk_at dksX0_law_0 10 rfl rfl)
theorem dX0_law_12 : decode cX0_law 12 = .ok (.ireturn, 1) := dk_172 (dk_at dksX0_law_0 12 rfl rfl)
theorem dX0_law_13 : decode cX0_law 13 = .ok (.iconst 0, 1) := dk_3 (dk_at dksX0_law_0 13 rfl rfl)
theorem dX0_law_14 : decode cX0_law 14 = .ok (.istore_n 1, 1) := dk_60 (dk_at dksX0_law_0 14 rfl rfl)
theorem dX0_law_15 : decode cX0_law 15 = .ok (.iconst 1, 1) := dk_4 (dk_at dksX0_law_0 15 rfl rfl)
theorem dX0_law_16 : decode cX0_law 16 = .ok (.istore_n 2, 1) := dk_61 (dk_at dksX0_law_0 16 rfl rfl)
theorem dX0_law_17 : decode cX0_law 17 = .ok (.iload_n 2, 1) := dk_28 (dk_at dksX0_law_0 17 rfl rfl)
theorem dX0_law_18 : decode cX0_law 18 = .ok (.iconst 4, 1) := dk_7 (dk_at dksX0_law_0 18 rfl rfl)
theorem dX0_law_19 : decode cX0_law 19 = .ok (.if_icmp .ge 30, 3) := dk_162 0 30 (dk_at dksX0_law_0 19 rfl rfl)
theorem dX0_law_22 : decode cX0_law 22 = .ok (.aload_n 0, 1) := dk_42 (dk_at dksX0_law_0 22 rfl rfl)
theorem dX0_law_23 : decode cX0_law 23 = .ok (.iload_n 2, 1) := dk_28 (dk_at dksX0_law_0 23 rfl rfl)
theorem dX0_law_24 : decode cX0_law 24 = .ok (.invokevirtual 393, 3) := dk_182 1 137 (dk_at dksX0_law_1 0 rfl rfl)
theorem dX0_law_27 : decode cX0_law 27 = .ok (.invokevirtual 351, 3) := dk_182 1 95 (dk_at dksX0_law_1 3 rfl rfl)
theorem dX0_law_30 : decode cX0_law 30 = .ok (.aload_n 0, 1) := dk_42 (dk_at dksX0_law_1 6 rfl rfl)
theorem dX0_law_31 : decode cX0_law 31 = .ok (.iload_n 1, 1) := dk_27 (dk_at dksX0_law_1 7 rfl rfl)
theorem dX0_law_32 : decode cX0_law 32 = .ok (.invokevirtual 393, 3) := dk_182 1 137 (dk_at dksX0_law_1 8 rfl rfl)
theorem dX0_law_35 : decode cX0_law 35 = .ok (.invokevirtual 351, 3) := dk_182 1 95 (dk_at dksX0_law_1 11 rfl rfl)
theorem dX0_law_38 : decode cX0_law 38 = .ok (.if_icmp .le 5, 3) := dk_164 0 5 (dk_at dksX0_law_1 14 rfl rfl)
theorem dX0_law_41 : decode cX0_law 41 = .ok (.iload_n 2, 1) := dk_28 (dk_at dksX0_law_1 17 rfl rfl)
theorem dX0_law_42 : decode cX0_law 42 = .ok (.istore_n 1, 1) := dk_60 (dk_at dksX0_law_1 18 rfl rfl)
theorem dX0_law_43 : decode cX0_law 43 = .ok (.iinc 2 1, 3) := dk_132 2 1 (dk_at dksX0_law_1 19 rfl rfl)
theorem dX0_law_46 : decode cX0_law 46 = .ok (.goto (-29), 3) := dk_167 255 227 (dk_at dksX0_law_2 0 rfl rfl)
theorem dX0_law_49 : decode cX0_law 49 = .ok (.iload_n 1, 1) := dk_27 (dk_at dksX0_law_2 3 rfl rfl)
theorem dX0_law_50 : decode cX0_law 50 = .ok (.ireturn, 1) := dk_172 (dk_at dksX0_law_2 4 rfl rfl)
abbrev cX0_worth : ByteArray := prog_1_method_87_code
def yX0_worth : MethodName := ⟨RX0, "worth", "(I)I"⟩
def dkwX0_worth_1 : List UInt8 := [42, 27, 182, 1, 144, 167, 0, 5, 16, 254, 172]
abbrev dktX0_worth_1 : List UInt8 := dkwX0_worth_1 ++ []
def dkwX0_worth_0 : List UInt8 := [42, 180, 0, 47, 182, 0, 98, 153, 0, 25, 27, 133, 9, 42, 182, 1, 80, 133, 184, 0, 11, 153, 0, 11]
abbrev dktX0_worth_0 : List UInt8 := dkwX0_worth_0 ++ dktX0_worth_1
theorem dksX0_worth_0 : cX0_worth.data.toList.drop 0 = dktX0_worth_0 := by decide +kernel
theorem dksX0_worth_1 : cX0_worth.data.toList.drop 24 = dktX0_worth_1 := dk_seg dksX0_worth_0 24 rfl rfl
theorem dX0_worth_0 : decode cX0_worth 0 = .ok (.aload_n 0, 1) := dk_42 (dk_at dksX0_worth_0 0 rfl rfl)
theorem dX0_worth_1 : decode cX0_worth 1 = .ok (.getfield 47, 3) := dk_180 0 47 (dk_at dksX0_worth_0 1 rfl rfl)
theorem dX0_worth_4 : decode cX0_worth 4 = .ok (.invokevirtual 98, 3) := dk_182 0 98 (dk_at dksX0_worth_0 4 rfl rfl)
theorem dX0_worth_7 : decode cX0_worth 7 = .ok (.ifCond .eq 25, 3) := dk_153 0 25 (dk_at dksX0_worth_0 7 rfl rfl)
theorem dX0_worth_10 : decode cX0_worth 10 = .ok (.iload_n 1, 1) := dk_27 (dk_at dksX0_worth_0 10 rfl rfl)
theorem dX0_worth_11 : decode cX0_worth 11 = .ok (.i2l, 1) := dk_133 (dk_at dksX0_worth_0 11 rfl rfl)
theorem dX0_worth_12 : decode cX0_worth 12 = .ok (.lconst 0, 1) := dk_9 (dk_at dksX0_worth_0 12 rfl rfl)
theorem dX0_worth_13 : decode cX0_worth 13 = .ok (.aload_n 0, 1) := dk_42 (dk_at dksX0_worth_0 13 rfl rfl)
theorem dX0_worth_14 : decode cX0_worth 14 = .ok (.invokevirtual 336, 3) := dk_182 1 80 (dk_at dksX0_worth_0 14 rfl rfl)
theorem dX0_worth_17 : decode cX0_worth 17 = .ok (.i2l, 1) := dk_133 (dk_at dksX0_worth_0 17 rfl rfl)
theorem dX0_worth_18 : decode cX0_worth 18 = .ok (.invokestatic 11, 3) := dk_184 0 11 (dk_at dksX0_worth_0 18 rfl rfl)
theorem dX0_worth_21 : decode cX0_worth 21 = .ok (.ifCond .eq 11, 3) := dk_153 0 11 (dk_at dksX0_worth_0 21 rfl rfl)
theorem dX0_worth_24 : decode cX0_worth 24 = .ok (.aload_n 0, 1) := dk_42 (dk_at dksX0_worth_1 0 rfl rfl)
theorem dX0_worth_25 : decode cX0_worth 25 = .ok (.iload_n 1, 1) := dk_27 (dk_at dksX0_worth_1 1 rfl rfl)
theorem dX0_worth_26 : decode cX0_worth 26 = .ok (.invokevirtual 400, 3) := dk_182 1 144 (dk_at dksX0_worth_1 2 rfl rfl)
theorem dX0_worth_29 : decode cX0_worth 29 = .ok (.goto 5, 3) := dk_167 0 5 (dk_at dksX0_worth_1 5 rfl rfl)
theorem dX0_worth_32 : decode cX0_worth 32 = .ok (.bipush (-2), 2) := dk_16 254 (dk_at dksX0_worth_1 8 rfl rfl)
theorem dX0_worth_34 : decode cX0_worth 34 = .ok (.ireturn, 1) := dk_172 (dk_at dksX0_worth_1 10 rfl rfl)
abbrev cX0_worthOf : ByteArray := prog_1_method_86_code
def yX0_worthOf : MethodName := ⟨RX0, "worthOf", "(I)I"⟩
def dkwX0_worthOf_1 : List UInt8 := [180, 0, 68, 182, 0, 191, 182, 1, 95, 172]
abbrev dktX0_worthOf_1 : List UInt8 := dkwX0_worthOf_1 ++ []
def dkwX0_worthOf_0 : List UInt8 := [42, 180, 0, 68, 182, 0, 188, 89, 180, 1, 92, 42, 182, 1, 80, 27, 2, 130, 126, 128, 181, 1, 92, 42]
abbrev dktX0_worthOf_0 : List UInt8 := dkwX0_worthOf_0 ++ dktX0_worthOf_1
theorem dksX0_worthOf_0 : cX0_worthOf.data.toList.drop 0 = dktX0_worthOf_0 := by decide +kernel
theorem dksX0_worthOf_1 : cX0_worthOf.data.toList.drop 24 = dktX0_worthOf_1 := dk_seg dksX0_worthOf_0 24 rfl rfl
theorem dX0_worthOf_0 : decode cX0_worthOf 0 = .ok (.aload_n 0, 1) := dk_42 (dk_at dksX0_worthOf_0 0 rfl rfl)
theorem dX0_worthOf_1 : decode cX0_worthOf 1 = .ok (.getfield 68, 3) := dk_180 0 68 (dk_at dksX0_worthOf_0 1 rfl rfl)
theorem dX0_worthOf_4 : decode cX0_worthOf 4 = .ok (.invokevirtual 188, 3) := dk_182 0 188 (dk_at dksX0_worthOf_0 4 rfl rfl)
theorem dX0_worthOf_7 : decode cX0_worthOf 7 = .ok (.dup, 1) := dk_89 (dk_at dksX0_worthOf_0 7 rfl rfl)
theorem dX0_worthOf_8 : decode cX0_worthOf 8 = .ok (.getfield 348, 3) := dk_180 1 92 (dk_at dksX0_worthOf_0 8 rfl rfl)
theorem dX0_worthOf_11 : decode cX0_worthOf 11 = .ok (.aload_n 0, 1) := dk_42 (dk_at dksX0_worthOf_0 11 rfl rfl)
theorem dX0_worthOf_12 : decode cX0_worthOf 12 = .ok (.invokevirtual 336, 3) := dk_182 1 80 (dk_at dksX0_worthOf_0 12 rfl rfl)
theorem dX0_worthOf_15 : decode cX0_worthOf 15 = .ok (.iload_n 1, 1) := dk_27 (dk_at dksX0_worthOf_0 15 rfl rfl)
theorem dX0_worthOf_16 : decode cX0_worthOf 16 = .ok (.iconst (-1), 1) := dk_2 (dk_at dksX0_worthOf_0 16 rfl rfl)
theorem dX0_worthOf_17 : decode cX0_worthOf 17 = .ok (.ixor, 1) := dk_130 (dk_at dksX0_worthOf_0 17 rfl rfl)
theorem dX0_worthOf_18 : decode cX0_worthOf 18 = .ok (.iand, 1) := dk_126 (dk_at dksX0_worthOf_0 18 rfl rfl)
theorem dX0_worthOf_19 : decode cX0_worthOf 19 = .ok (.ior, 1) := dk_128 (dk_at dksX0_worthOf_0 19 rfl rfl)
theorem dX0_worthOf_20 : decode cX0_worthOf 20 = .ok (.putfield 348, 3) := dk_181 1 92 (dk_at dksX0_worthOf_0 20 rfl rfl)
theorem dX0_worthOf_23 : decode cX0_worthOf 23 = .ok (.aload_n 0, 1) := dk_42 (dk_at dksX0_worthOf_0 23 rfl rfl)
theorem dX0_worthOf_24 : decode cX0_worthOf 24 = .ok (.getfield 68, 3) := dk_180 0 68 (dk_at dksX0_worthOf_1 0 rfl rfl)
theorem dX0_worthOf_27 : decode cX0_worthOf 27 = .ok (.invokevirtual 191, 3) := dk_182 0 191 (dk_at dksX0_worthOf_1 3 rfl rfl)
theorem dX0_worthOf_30 : decode cX0_worthOf 30 = .ok (.invokevirtual 351, 3) := dk_182 1 95 (dk_at dksX0_worthOf_1 6 rfl rfl)
theorem dX0_worthOf_33 : decode cX0_worthOf 33 = .ok (.ireturn, 1) := dk_172 (dk_at dksX0_worthOf_1 9 rfl rfl)
abbrev cX0_share : ByteArray := prog_1_method_91_code
def yX0_share : MethodName := ⟨RX0, "share", "(II)I"⟩
def dkwX0_share_4 : List UInt8 := [66, 132, 5, 1, 167, 255, 185, 33, 42, 182, 0, 126, 184, 1, 147, 28, 184, 1, 162, 136, 172]
abbrev dktX0_share_4 : List UInt8 := dkwX0_share_4 ++ []
def dkwX0_share_3 : List UInt8 := [184, 1, 147, 105, 42, 21, 5, 4, 27, 120, 128, 182, 1, 144, 42, 21, 5, 182, 1, 144, 100, 133, 105, 97]
abbrev dktX0_share_3 : List UInt8 := dkwX0_share_3 ++ dktX0_share_4
def dkwX0_share_2 : List UInt8 := [21, 5, 184, 1, 32, 54, 6, 33, 21, 6, 184, 1, 147, 42, 182, 0, 126, 21, 6, 100, 4, 100]
abbrev dktX0_share_2 : List UInt8 := dkwX0_share_2 ++ dktX0_share_3
def dkwX0_share_1 : List UInt8 := [54, 5, 21, 5, 42, 182, 1, 80, 163, 0, 68, 21, 5, 27, 184, 1, 77, 153, 0, 6, 167, 0, 50]
abbrev dktX0_share_1 : List UInt8 := dkwX0_share_1 ++ dktX0_share_2
def dkwX0_share_0 : List UInt8 := [42, 27, 133, 182, 0, 138, 153, 0, 10, 28, 184, 1, 158, 154, 0, 7, 19, 1, 161, 172, 9, 66, 3]
abbrev dktX0_share_0 : List UInt8 := dkwX0_share_0 ++ dktX0_share_1
theorem dksX0_share_0 : cX0_share.data.toList.drop 0 = dktX0_share_0 := by decide +kernel
theorem dksX0_share_1 : cX0_share.data.toList.drop 23 = dktX0_share_1 := dk_seg dksX0_share_0 23 rfl rfl
theorem dksX0_share_2 : cX0_share.data.toList.drop 46 = dktX0_share_2 := dk_seg dksX0_share_1 23 rfl rfl
theorem dksX0_share_3 : cX0_share.data.toList.drop 68 = dktX0_share_3 := dk_seg dksX0_share_2 22 rfl rfl
theorem dksX0_share_4 : cX0_share.data.toList.drop 92 = dktX0_share_4 := dk_seg dksX0_share_3 24 rfl rfl
theorem dX0_share_0 : decode cX0_share 0 = .ok (.aload_n 0, 1) := dk_42 (dk_at dksX0_share_0 0 rfl rfl)
theorem dX0_share_1 : decode cX0_share 1 = .ok (.iload_n 1, 1) := dk_27 (dk_at dksX0_share_0 1 rfl rfl)
theorem dX0_share_2 : decode cX0_share 2 = .ok (.i2l, 1) := dk_133 (dk_at dksX0_share_0 2 rfl rfl)
theorem dX0_share_3 : decode cX0_share 3 = .ok (.invokevirtual 138, 3) := dk_182 0 138 (dk_at dksX0_share_0 3 rfl rfl)
theorem dX0_share_6 : decode cX0_share 6 = .ok (.ifCond .eq 10, 3) := dk_153 0 10 (dk_at dksX0_share_0 6 rfl rfl)
theorem dX0_share_9 : decode cX0_share 9 = .ok (.iload_n 2, 1) := dk_28 (dk_at dksX0_share_0 9 rfl rfl)
theorem dX0_share_10 : decode cX0_share 10 = .ok (.invokestatic 414, 3) := dk_184 1 158 (dk_at dksX0_share_0 10 rfl rfl)
theorem dX0_share_13 : decode cX0_share 13 = .ok (.ifCond .ne 7, 3) := dk_154 0 7 (dk_at dksX0_share_0 13 rfl rfl)
theorem dX0_share_16 : decode cX0_share 16 = .ok (.ldc_w 417, 3) := dk_19 1 161 (dk_at dksX0_share_0 16 rfl rfl)
theorem dX0_share_19 : decode cX0_share 19 = .ok (.ireturn, 1) := dk_172 (dk_at dksX0_share_0 19 rfl rfl)
theorem dX0_share_20 : decode cX0_share 20 = .ok (.lconst 0, 1) := dk_9 (dk_at dksX0_share_0 20 rfl rfl)
theorem dX0_share_21 : decode cX0_share 21 = .ok (.lstore_n 3, 1) := dk_66 (dk_at dksX0_share_0 21 rfl rfl)
theorem dX0_share_22 : decode cX0_share 22 = .ok (.iconst 0, 1) := dk_3 (dk_at dksX0_share_0 22 rfl rfl)
theorem dX0_share_23 : decode cX0_share 23 = .ok (.istore 5, 2) := dk_54 5 (dk_at dksX0_share_1 0 rfl rfl)
theorem dX0_share_25 : decode cX0_share 25 = .ok (.iload 5, 2) := dk_21 5 (dk_at dksX0_share_1 2 rfl rfl)
theorem dX0_share_27 : decode cX0_share 27 = .ok (.aload_n 0, 1) := dk_42 (dk_at dksX0_share_1 4 rfl rfl)
theorem dX0_share_28 : decode cX0_share 28 = .ok (.invokevirtual 336, 3) := dk_182 1 80 (dk_at dksX0_share_1 5 rfl rfl)
theorem dX0_share_31 : decode cX0_share 31 = .ok (.if_icmp .gt 68, 3) := dk_163 0 68 (dk_at dksX0_share_1 8 rfl rfl)
theorem dX0_share_34 : decode cX0_share 34 = .ok (.iload 5, 2) := dk_21 5 (dk_at dksX0_share_1 11 rfl rfl)
theorem dX0_share_36 : decode cX0_share 36 = .ok (.iload_n 1, 1) := dk_27 (dk_at dksX0_share_1 13 rfl rfl)
theorem dX0_share_37 : decode cX0_share 37 = .ok (.invokestatic 333, 3) := dk_184 1 77 (dk_at dksX0_share_1 14 rfl rfl)
theorem dX0_share_40 : decode cX0_share 40 = .ok (.ifCond .eq 6, 3) := dk_153 0 6 (dk_at dksX0_share_1 17 rfl rfl)
theorem dX0_share_43 : decode cX0_share 43 = .ok (.goto 50, 3) := dk_167 0 50 (dk_at dksX0_share_1 20 rfl rfl)
theorem dX0_share_46 : decode cX0_share 46 = .ok (.iload 5, 2) := dk_21 5 (dk_at dksX0_share_2 0 rfl rfl)
theorem dX0_share_48 : decode cX0_share 48 = .ok (.invokestatic 288, 3) := dk_184 1 32 (dk_at dksX0_share_2 2 rfl rfl)
theorem dX0_share_51 : decode cX0_share 51 = .ok (.istore 6, 2) := dk_54 6 (dk_at dksX0_share_2 5 rfl rfl)
theorem dX0_share_53 : decode cX0_share 53 = .ok (.lload_n 3, 1) := dk_33 (dk_at dksX0_share_2 7 rfl rfl)
theorem dX0_share_54 : decode cX0_share 54 = .ok (.iload 6, 2) := dk_21 6 (dk_at dksX0_share_2 8 rfl rfl)
theorem dX0_share_56 : decode cX0_share 56 = .ok (.invokestatic 403, 3) := dk_184 1 147 (dk_at dksX0_share_2 10 rfl rfl)
theorem dX0_share_59 : decode cX0_share 59 = .ok (.aload_n 0, 1) := dk_42 (dk_at dksX0_share_2 13 rfl rfl)
theorem dX0_share_60 : decode cX0_share 60 = .ok (.invokevirtual 126, 3) := dk_182 0 126 (dk_at dksX0_share_2 14 rfl rfl)
theorem dX0_share_63 : decode cX0_share 63 = .ok (.iload 6, 2) := dk_21 6 (dk_at dksX0_share_2 17 rfl rfl)
theorem dX0_share_65 : decode cX0_share 65 = .ok (.isub, 1) := dk_100 (dk_at dksX0_share_2 19 rfl rfl)
theorem dX0_share_66 : decode cX0_share 66 = .ok (.iconst 1, 1) := dk_4 (dk_at dksX0_share_2 20 rfl rfl)
theorem dX0_share_67 : decode cX0_share 67 = .ok (.isub, 1) := dk_100 (dk_at dksX0_share_2 21 rfl rfl)
theorem dX0_share_68 : decode cX0_share 68 = .ok (.invokestatic 403, 3) := dk_184 1 147 (dk_at dksX0_share_3 0 rfl rfl)
theorem dX0_share_71 : decode cX0_share 71 = .ok (.lmul, 1) := dk_105 (dk_at dksX0_share_3 3 rfl rfl)
theorem dX0_share_72 : decode cX0_share 72 = .ok (.aload_n 0, 1) := dk_42 (dk_at dksX0_share_3 4 rfl rfl)
theorem dX0_share_73 : decode cX0_share 73 = .ok (.iload 5, 2) := dk_21 5 (dk_at dksX0_share_3 5 rfl rfl)
theorem dX0_share_75 : decode cX0_share 75 = .ok (.iconst 1, 1) := dk_4 (dk_at dksX0_share_3 7 rfl rfl)
theorem dX0_share_76 : decode cX0_share 76 = .ok (.iload_n 1, 1) := dk_27 (dk_at dksX0_share_3 8 rfl rfl)
theorem dX0_share_77 : decode cX0_share 77 = .ok (.ishl, 1) := dk_120 (dk_at dksX0_share_3 9 rfl rfl)
theorem dX0_share_78 : decode cX0_share 78 = .ok (.ior, 1) := dk_128 (dk_at dksX0_share_3 10 rfl rfl)
theorem dX0_share_79 : decode cX0_share 79 = .ok (.invokevirtual 400, 3) := dk_182 1 144 (dk_at dksX0_share_3 11 rfl rfl)
theorem dX0_share_82 : decode cX0_share 82 = .ok (.aload_n 0, 1) := dk_42 (dk_at dksX0_share_3 14 rfl rfl)
theorem dX0_share_83 : decode cX0_share 83 = .ok (.iload 5, 2) := dk_21 5 (dk_at dksX0_share_3 15 rfl rfl)
theorem dX0_share_85 : decode cX0_share 85 = .ok (.invokevirtual 400, 3) := dk_182 1 144 (dk_at dksX0_share_3 17 rfl rfl)
theorem dX0_share_88 : decode cX0_share 88 = .ok (.isub, 1) := dk_100 (dk_at dksX0_share_3 20 rfl rfl)
theorem dX0_share_89 : decode cX0_share 89 = .ok (.i2l, 1) := dk_133 (dk_at dksX0_share_3 21 rfl rfl)
theorem dX0_share_90 : decode cX0_share 90 = .ok (.lmul, 1) := dk_105 (dk_at dksX0_share_3 22 rfl rfl)
theorem dX0_share_91 : decode cX0_share 91 = .ok (.ladd, 1) := dk_97 (dk_at dksX0_share_3 23 rfl rfl)
theorem dX0_share_92 : decode cX0_share 92 = .ok (.lstore_n 3, 1) := dk_66 (dk_at dksX0_share_4 0 rfl rfl)
theorem dX0_share_93 : decode cX0_share 93 = .ok (.iinc 5 1, 3) := dk_132 5 1 (dk_at dksX0_share_4 1 rfl rfl)
theorem dX0_share_96 : decode cX0_share 96 = .ok (.goto (-71), 3) := dk_167 255 185 (dk_at dksX0_share_4 4 rfl rfl)
theorem dX0_share_99 : decode cX0_share 99 = .ok (.lload_n 3, 1) := dk_33 (dk_at dksX0_share_4 7 rfl rfl)
theorem dX0_share_100 : decode cX0_share 100 = .ok (.aload_n 0, 1) := dk_42 (dk_at dksX0_share_4 8 rfl rfl)
theorem dX0_share_101 : decode cX0_share 101 = .ok (.invokevirtual 126, 3) := dk_182 0 126 (dk_at dksX0_share_4 9 rfl rfl)
theorem dX0_share_104 : decode cX0_share 104 = .ok (.invokestatic 403, 3) := dk_184 1 147 (dk_at dksX0_share_4 12 rfl rfl)
theorem dX0_share_107 : decode cX0_share 107 = .ok (.iload_n 2, 1) := dk_28 (dk_at dksX0_share_4 15 rfl rfl)
theorem dX0_share_108 : decode cX0_share 108 = .ok (.invokestatic 418, 3) := dk_184 1 162 (dk_at dksX0_share_4 16 rfl rfl)
theorem dX0_share_111 : decode cX0_share 111 = .ok (.l2i, 1) := dk_136 (dk_at dksX0_share_4 19 rfl rfl)
theorem dX0_share_112 : decode cX0_share 112 = .ok (.ireturn, 1) := dk_172 (dk_at dksX0_share_4 20 rfl rfl)
abbrev cX0_isBit : ByteArray := prog_1_method_22_code
def yX0_isBit : MethodName := ⟨RX0, "isBit", "(I)Z"⟩
def dkwX0_isBit_0 : List UInt8 := [26, 133, 9, 10, 184, 0, 11, 172]
abbrev dktX0_isBit_0 : List UInt8 := dkwX0_isBit_0 ++ []
theorem dksX0_isBit_0 : cX0_isBit.data.toList.drop 0 = dktX0_isBit_0 := by decide +kernel
theorem dX0_isBit_0 : decode cX0_isBit 0 = .ok (.iload_n 0, 1) := dk_26 (dk_at dksX0_isBit_0 0 rfl rfl)
theorem dX0_isBit_1 : decode cX0_isBit 1 = .ok (.i2l, 1) := dk_133 (dk_at dksX0_isBit_0 1 rfl rfl)
theorem dX0_isBit_2 : decode cX0_isBit 2 = .ok (.lconst 0, 1) := dk_9 (dk_at dksX0_isBit_0 2 rfl rfl)
theorem dX0_isBit_3 : decode cX0_isBit 3 = .ok (.lconst 1, 1) := dk_10 (dk_at dksX0_isBit_0 3 rfl rfl)
theorem dX0_isBit_4 : decode cX0_isBit 4 = .ok (.invokestatic 11, 3) := dk_184 0 11 (dk_at dksX0_isBit_0 4 rfl rfl)
theorem dX0_isBit_7 : decode cX0_isBit 7 = .ok (.ireturn, 1) := dk_172 (dk_at dksX0_isBit_0 7 rfl rfl)
abbrev cX0_factorial : ByteArray := prog_1_method_88_code
def yX0_factorial : MethodName := ⟨RX0, "factorial", "(I)J"⟩
def dkwX0_factorial_0 : List UInt8 := [26, 5, 162, 0, 7, 10, 167, 0, 12, 26, 133, 26, 4, 100, 184, 1, 147, 105, 173]
abbrev dktX0_factorial_0 : List UInt8 := dkwX0_factorial_0 ++ []
theorem dksX0_factorial_0 : cX0_factorial.data.toList.drop 0 = dktX0_factorial_0 := by decide +kernel
theorem dX0_factorial_0 : decode cX0_factorial 0 = .ok (.iload_n 0, 1) := dk_26 (dk_at dksX0_factorial_0 0 rfl rfl)
theorem dX0_factorial_1 : decode cX0_factorial 1 = .ok (.iconst 2, 1) := dk_5 (dk_at dksX0_factorial_0 1 rfl rfl)
theorem dX0_factorial_2 : decode cX0_factorial 2 = .ok (.if_icmp .ge 7, 3) := dk_162 0 7 (dk_at dksX0_factorial_0 2 rfl rfl)
theorem dX0_factorial_5 : decode cX0_factorial 5 = .ok (.lconst 1, 1) := dk_10 (dk_at dksX0_factorial_0 5 rfl rfl)
theorem dX0_factorial_6 : decode cX0_factorial 6 = .ok (.goto 12, 3) := dk_167 0 12 (dk_at dksX0_factorial_0 6 rfl rfl)
theorem dX0_factorial_9 : decode cX0_factorial 9 = .ok (.iload_n 0, 1) := dk_26 (dk_at dksX0_factorial_0 9 rfl rfl)
theorem dX0_factorial_10 : decode cX0_factorial 10 = .ok (.i2l, 1) := dk_133 (dk_at dksX0_factorial_0 10 rfl rfl)
theorem dX0_factorial_11 : decode cX0_factorial 11 = .ok (.iload_n 0, 1) := dk_26 (dk_at dksX0_factorial_0 11 rfl rfl)
theorem dX0_factorial_12 : decode cX0_factorial 12 = .ok (.iconst 1, 1) := dk_4 (dk_at dksX0_factorial_0 12 rfl rfl)
theorem dX0_factorial_13 : decode cX0_factorial 13 = .ok (.isub, 1) := dk_100 (dk_at dksX0_factorial_0 13 rfl rfl)
theorem dX0_factorial_14 : decode cX0_factorial 14 = .ok (.invokestatic 403, 3) := dk_184 1 147 (dk_at dksX0_factorial_0 14 rfl rfl)
theorem dX0_factorial_17 : decode cX0_factorial 17 = .ok (.lmul, 1) := dk_105 (dk_at dksX0_factorial_0 17 rfl rfl)
theorem dX0_factorial_18 : decode cX0_factorial 18 = .ok (.lreturn, 1) := dk_173 (dk_at dksX0_factorial_0 18 rfl rfl)
abbrev cX0_part : ByteArray := prog_1_method_90_code
def yX0_part : MethodName := ⟨RX0, "part", "(JJI)J"⟩
def dkwX0_part_0 : List UInt8 := [21, 4, 154, 0, 7, 30, 167, 0, 4, 32, 30, 32, 184, 1, 154, 109, 173]
abbrev dktX0_part_0 : List UInt8 := dkwX0_part_0 ++ []
theorem dksX0_part_0 : cX0_part.data.toList.drop 0 = dktX0_part_0 := by decide +kernel
theorem dX0_part_0 : decode cX0_part 0 = .ok (.iload 4, 2) := dk_21 4 (dk_at dksX0_part_0 0 rfl rfl)
theorem dX0_part_2 : decode cX0_part 2 = .ok (.ifCond .ne 7, 3) := dk_154 0 7 (dk_at dksX0_part_0 2 rfl rfl)
theorem dX0_part_5 : decode cX0_part 5 = .ok (.lload_n 0, 1) := dk_30 (dk_at dksX0_part_0 5 rfl rfl)
theorem dX0_part_6 : decode cX0_part 6 = .ok (.goto 4, 3) := dk_167 0 4 (dk_at dksX0_part_0 6 rfl rfl)
theorem dX0_part_9 : decode cX0_part 9 = .ok (.lload_n 2, 1) := dk_32 (dk_at dksX0_part_0 9 rfl rfl)
theorem dX0_part_10 : decode cX0_part 10 = .ok (.lload_n 0, 1) := dk_30 (dk_at dksX0_part_0 10 rfl rfl)
theorem dX0_part_11 : decode cX0_part 11 = .ok (.lload_n 2, 1) := dk_32 (dk_at dksX0_part_0 11 rfl rfl)
theorem dX0_part_12 : decode cX0_part 12 = .ok (.invokestatic 410, 3) := dk_184 1 154 (dk_at dksX0_part_0 12 rfl rfl)
theorem dX0_part_15 : decode cX0_part 15 = .ok (.ldiv, 1) := dk_109 (dk_at dksX0_part_0 15 rfl rfl)
theorem dX0_part_16 : decode cX0_part 16 = .ok (.lreturn, 1) := dk_173 (dk_at dksX0_part_0 16 rfl rfl)
abbrev cX0_common : ByteArray := prog_1_method_89_code
def yX0_common : MethodName := ⟨RX0, "common", "(JJ)J"⟩
def dkwX0_common_0 : List UInt8 := [32, 9, 148, 154, 0, 10, 30, 184, 1, 150, 167, 0, 10, 32, 30, 32, 113, 184, 1, 154, 173]
abbrev dktX0_common_0 : List UInt8 := dkwX0_common_0 ++ []
theorem dksX0_common_0 : cX0_common.data.toList.drop 0 = dktX0_common_0 := by decide +kernel
theorem dX0_common_0 : decode cX0_common 0 = .ok (.lload_n 2, 1) := dk_32 (dk_at dksX0_common_0 0 rfl rfl)
theorem dX0_common_1 : decode cX0_common 1 = .ok (.lconst 0, 1) := dk_9 (dk_at dksX0_common_0 1 rfl rfl)
theorem dX0_common_2 : decode cX0_common 2 = .ok (.lcmp, 1) := dk_148 (dk_at dksX0_common_0 2 rfl rfl)
theorem dX0_common_3 : decode cX0_common 3 = .ok (.ifCond .ne 10, 3) := dk_154 0 10 (dk_at dksX0_common_0 3 rfl rfl)
theorem dX0_common_6 : decode cX0_common 6 = .ok (.lload_n 0, 1) := dk_30 (dk_at dksX0_common_0 6 rfl rfl)
theorem dX0_common_7 : decode cX0_common 7 = .ok (.invokestatic 406, 3) := dk_184 1 150 (dk_at dksX0_common_0 7 rfl rfl)
theorem dX0_common_10 : decode cX0_common 10 = .ok (.goto 10, 3) := dk_167 0 10 (dk_at dksX0_common_0 10 rfl rfl)
theorem dX0_common_13 : decode cX0_common 13 = .ok (.lload_n 2, 1) := dk_32 (dk_at dksX0_common_0 13 rfl rfl)
theorem dX0_common_14 : decode cX0_common 14 = .ok (.lload_n 0, 1) := dk_30 (dk_at dksX0_common_0 14 rfl rfl)
theorem dX0_common_15 : decode cX0_common 15 = .ok (.lload_n 2, 1) := dk_32 (dk_at dksX0_common_0 15 rfl rfl)
theorem dX0_common_16 : decode cX0_common 16 = .ok (.lrem, 1) := dk_113 (dk_at dksX0_common_0 16 rfl rfl)
theorem dX0_common_17 : decode cX0_common 17 = .ok (.invokestatic 410, 3) := dk_184 1 154 (dk_at dksX0_common_0 17 rfl rfl)
theorem dX0_common_20 : decode cX0_common 20 = .ok (.lreturn, 1) := dk_173 (dk_at dksX0_common_0 20 rfl rfl)
abbrev cX0_rests : ByteArray := prog_1_method_94_code
def yX0_rests : MethodName := ⟨RX0, "rests", "(II)I"⟩
def dkwX0_rests_2 : List UInt8 := [3, 128, 62, 132, 4, 1, 167, 255, 219, 29, 172]
abbrev dktX0_rests_2 : List UInt8 := dkwX0_rests_2 ++ []
def dkwX0_rests_1 : List UInt8 := [42, 27, 28, 21, 4, 5, 112, 21, 4, 5, 108, 182, 1, 173, 153, 0, 10, 4, 21, 4, 120, 167, 0, 4]
abbrev dktX0_rests_1 : List UInt8 := dkwX0_rests_1 ++ dktX0_rests_2
def dkwX0_rests_0 : List UInt8 := [42, 27, 28, 182, 1, 170, 154, 0, 6, 16, 254, 172, 3, 62, 3, 54, 4, 21, 4, 7, 162, 0, 37, 29]
abbrev dktX0_rests_0 : List UInt8 := dkwX0_rests_0 ++ dktX0_rests_1
theorem dksX0_rests_0 : cX0_rests.data.toList.drop 0 = dktX0_rests_0 := by decide +kernel
theorem dksX0_rests_1 : cX0_rests.data.toList.drop 24 = dktX0_rests_1 := dk_seg dksX0_rests_0 24 rfl rfl
theorem dksX0_rests_2 : cX0_rests.data.toList.drop 48 = dktX0_rests_2 := dk_seg dksX0_rests_1 24 rfl rfl
theorem dX0_rests_0 : decode cX0_rests 0 = .ok (.aload_n 0, 1) := dk_42 (dk_at dksX0_rests_0 0 rfl rfl)
theorem dX0_rests_1 : decode cX0_rests 1 = .ok (.iload_n 1, 1) := dk_27 (dk_at dksX0_rests_0 1 rfl rfl)
theorem dX0_rests_2 : decode cX0_rests 2 = .ok (.iload_n 2, 1) := dk_28 (dk_at dksX0_rests_0 2 rfl rfl)
theorem dX0_rests_3 : decode cX0_rests 3 = .ok (.invokevirtual 426, 3) := dk_182 1 170 (dk_at dksX0_rests_0 3 rfl rfl)
theorem dX0_rests_6 : decode cX0_rests 6 = .ok (.ifCond .ne 6, 3) := dk_154 0 6 (dk_at dksX0_rests_0 6 rfl rfl)
theorem dX0_rests_9 : decode cX0_rests 9 = .ok (.bipush (-2), 2) := dk_16 254 (dk_at dksX0_rests_0 9 rfl rfl)
theorem dX0_rests_11 : decode cX0_rests 11 = .ok (.ireturn, 1) := dk_172 (dk_at dksX0_rests_0 11 rfl rfl)
theorem dX0_rests_12 : decode cX0_rests 12 = .ok (.iconst 0, 1) := dk_3 (dk_at dksX0_rests_0 12 rfl rfl)
theorem dX0_rests_13 : decode cX0_rests 13 = .ok (.istore_n 3, 1) := dk_62 (dk_at dksX0_rests_0 13 rfl rfl)
theorem dX0_rests_14 : decode cX0_rests 14 = .ok (.iconst 0, 1) := dk_3 (dk_at dksX0_rests_0 14 rfl rfl)
theorem dX0_rests_15 : decode cX0_rests 15 = .ok (.istore 4, 2) := dk_54 4 (dk_at dksX0_rests_0 15 rfl rfl)
theorem dX0_rests_17 : decode cX0_rests 17 = .ok (.iload 4, 2) := dk_21 4 (dk_at dksX0_rests_0 17 rfl rfl)
theorem dX0_rests_19 : decode cX0_rests 19 = .ok (.iconst 4, 1) := dk_7 (dk_at dksX0_rests_0 19 rfl rfl)
theorem dX0_rests_20 : decode cX0_rests 20 = .ok (.if_icmp .ge 37, 3) := dk_162 0 37 (dk_at dksX0_rests_0 20 rfl rfl)
theorem dX0_rests_23 : decode cX0_rests 23 = .ok (.iload_n 3, 1) := dk_29 (dk_at dksX0_rests_0 23 rfl rfl)
theorem dX0_rests_24 : decode cX0_rests 24 = .ok (.aload_n 0, 1) := dk_42 (dk_at dksX0_rests_1 0 rfl rfl)
theorem dX0_rests_25 : decode cX0_rests 25 = .ok (.iload_n 1, 1) := dk_27 (dk_at dksX0_rests_1 1 rfl rfl)
theorem dX0_rests_26 : decode cX0_rests 26 = .ok (.iload_n 2, 1) := dk_28 (dk_at dksX0_rests_1 2 rfl rfl)
theorem dX0_rests_27 : decode cX0_rests 27 = .ok (.iload 4, 2) := dk_21 4 (dk_at dksX0_rests_1 3 rfl rfl)
theorem dX0_rests_29 : decode cX0_rests 29 = .ok (.iconst 2, 1) := dk_5 (dk_at dksX0_rests_1 5 rfl rfl)
theorem dX0_rests_30 : decode cX0_rests 30 = .ok (.irem, 1) := dk_112 (dk_at dksX0_rests_1 6 rfl rfl)
theorem dX0_rests_31 : decode cX0_rests 31 = .ok (.iload 4, 2) := dk_21 4 (dk_at dksX0_rests_1 7 rfl rfl)
theorem dX0_rests_33 : decode cX0_rests 33 = .ok (.iconst 2, 1) := dk_5 (dk_at dksX0_rests_1 9 rfl rfl)
theorem dX0_rests_34 : decode cX0_rests 34 = .ok (.idiv, 1) := dk_108 (dk_at dksX0_rests_1 10 rfl rfl)
theorem dX0_rests_35 : decode cX0_rests 35 = .ok (.invokevirtual 429, 3) := dk_182 1 173 (dk_at dksX0_rests_1 11 rfl rfl)
theorem dX0_rests_38 : decode cX0_rests 38 = .ok (.ifCond .eq 10, 3) := dk_153 0 10 (dk_at dksX0_rests_1 14 rfl rfl)
theorem dX0_rests_41 : decode cX0_rests 41 = .ok (.iconst 1, 1) := dk_4 (dk_at dksX0_rests_1 17 rfl rfl)
theorem dX0_rests_42 : decode cX0_rests 42 = .ok (.iload 4, 2) := dk_21 4 (dk_at dksX0_rests_1 18 rfl rfl)
theorem dX0_rests_44 : decode cX0_rests 44 = .ok (.ishl, 1) := dk_120 (dk_at dksX0_rests_1 20 rfl rfl)
theorem dX0_rests_45 : decode cX0_rests 45 = .ok (.goto 4, 3) := dk_167 0 4 (dk_at dksX0_rests_1 21 rfl rfl)
theorem dX0_rests_48 : decode cX0_rests 48 = .ok (.iconst 0, 1) := dk_3 (dk_at dksX0_rests_2 0 rfl rfl)
theorem dX0_rests_49 : decode cX0_rests 49 = .ok (.ior, 1) := dk_128 (dk_at dksX0_rests_2 1 rfl rfl)
theorem dX0_rests_50 : decode cX0_rests 50 = .ok (.istore_n 3, 1) := dk_62 (dk_at dksX0_rests_2 2 rfl rfl)
theorem dX0_rests_51 : decode cX0_rests 51 = .ok (.iinc 4 1, 3) := dk_132 4 1 (dk_at dksX0_rests_2 3 rfl rfl)
theorem dX0_rests_54 : decode cX0_rests 54 = .ok (.goto (-37), 3) := dk_167 255 219 (dk_at dksX0_rests_2 6 rfl rfl)
theorem dX0_rests_57 : decode cX0_rests 57 = .ok (.iload_n 3, 1) := dk_29 (dk_at dksX0_rests_2 9 rfl rfl)
theorem dX0_rests_58 : decode cX0_rests 58 = .ok (.ireturn, 1) := dk_172 (dk_at dksX0_rests_2 10 rfl rfl)
abbrev cX0_areTwo : ByteArray := prog_1_method_18_code
def yX0_areTwo : MethodName := ⟨RX0, "areTwo", "(II)Z"⟩
def dkwX0_areTwo_1 : List UInt8 := [167, 0, 4, 3, 172]
abbrev dktX0_areTwo_1 : List UInt8 := dkwX0_areTwo_1 ++ []
def dkwX0_areTwo_0 : List UInt8 := [42, 27, 133, 182, 0, 138, 153, 0, 21, 42, 28, 133, 182, 0, 138, 153, 0, 12, 27, 28, 159, 0, 7, 4]
abbrev dktX0_areTwo_0 : List UInt8 := dkwX0_areTwo_0 ++ dktX0_areTwo_1
theorem dksX0_areTwo_0 : cX0_areTwo.data.toList.drop 0 = dktX0_areTwo_0 := by decide +kernel
theorem dksX0_areTwo_1 : cX0_areTwo.data.toList.drop 24 = dktX0_areTwo_1 := dk_seg dksX0_areTwo_0 24 rfl rfl
theorem dX0_areTwo_0 : decode cX0_areTwo 0 = .ok (.aload_n 0, 1) := dk_42 (dk_at dksX0_areTwo_0 0 rfl rfl)
theorem dX0_areTwo_1 : decode cX0_areTwo 1 = .ok (.iload_n 1, 1) := dk_27 (dk_at dksX0_areTwo_0 1 rfl rfl)
theorem dX0_areTwo_2 : decode cX0_areTwo 2 = .ok (.i2l, 1) := dk_133 (dk_at dksX0_areTwo_0 2 rfl rfl)
theorem dX0_areTwo_3 : decode cX0_areTwo 3 = .ok (.invokevirtual 138, 3) := dk_182 0 138 (dk_at dksX0_areTwo_0 3 rfl rfl)
theorem dX0_areTwo_6 : decode cX0_areTwo 6 = .ok (.ifCond .eq 21, 3) := dk_153 0 21 (dk_at dksX0_areTwo_0 6 rfl rfl)
theorem dX0_areTwo_9 : decode cX0_areTwo 9 = .ok (.aload_n 0, 1) := dk_42 (dk_at dksX0_areTwo_0 9 rfl rfl)
theorem dX0_areTwo_10 : decode cX0_areTwo 10 = .ok (.iload_n 2, 1) := dk_28 (dk_at dksX0_areTwo_0 10 rfl rfl)
theorem dX0_areTwo_11 : decode cX0_areTwo 11 = .ok (.i2l, 1) := dk_133 (dk_at dksX0_areTwo_0 11 rfl rfl)
theorem dX0_areTwo_12 : decode cX0_areTwo 12 = .ok (.invokevirtual 138, 3) := dk_182 0 138 (dk_at dksX0_areTwo_0 12 rfl rfl)
theorem dX0_areTwo_15 : decode cX0_areTwo 15 = .ok (.ifCond .eq 12, 3) := dk_153 0 12 (dk_at dksX0_areTwo_0 15 rfl rfl)
theorem dX0_areTwo_18 : decode cX0_areTwo 18 = .ok (.iload_n 1, 1) := dk_27 (dk_at dksX0_areTwo_0 18 rfl rfl)
theorem dX0_areTwo_19 : decode cX0_areTwo 19 = .ok (.iload_n 2, 1) := dk_28 (dk_at dksX0_areTwo_0 19 rfl rfl)
theorem dX0_areTwo_20 : decode cX0_areTwo 20 = .ok (.if_icmp .eq 7, 3) := dk_159 0 7 (dk_at dksX0_areTwo_0 20 rfl rfl)
theorem dX0_areTwo_23 : decode cX0_areTwo 23 = .ok (.iconst 1, 1) := dk_4 (dk_at dksX0_areTwo_0 23 rfl rfl)
theorem dX0_areTwo_24 : decode cX0_areTwo 24 = .ok (.goto 4, 3) := dk_167 0 4 (dk_at dksX0_areTwo_1 0 rfl rfl)
theorem dX0_areTwo_27 : decode cX0_areTwo 27 = .ok (.iconst 0, 1) := dk_3 (dk_at dksX0_areTwo_1 3 rfl rfl)
theorem dX0_areTwo_28 : decode cX0_areTwo 28 = .ok (.ireturn, 1) := dk_172 (dk_at dksX0_areTwo_1 4 rfl rfl)
abbrev cX0_isRest : ByteArray := prog_1_method_93_code
def yX0_isRest : MethodName := ⟨RX0, "isRest", "(IIII)Z"⟩
def dkwX0_isRest_2 : List UInt8 := [182, 1, 166, 163, 0, 7, 4, 167, 0, 4, 3, 172]
abbrev dktX0_isRest_2 : List UInt8 := dkwX0_isRest_2 ++ []
def dkwX0_isRest_1 : List UInt8 := [163, 0, 32, 42, 28, 27, 28, 29, 4, 21, 4, 100, 182, 1, 166, 42, 28, 27, 28, 29, 21, 4]
abbrev dktX0_isRest_1 : List UInt8 := dkwX0_isRest_1 ++ dktX0_isRest_2
def dkwX0_isRest_0 : List UInt8 := [42, 27, 27, 28, 4, 29, 100, 21, 4, 182, 1, 166, 42, 27, 27, 28, 29, 21, 4, 182, 1, 166]
abbrev dktX0_isRest_0 : List UInt8 := dkwX0_isRest_0 ++ dktX0_isRest_1
theorem dksX0_isRest_0 : cX0_isRest.data.toList.drop 0 = dktX0_isRest_0 := by decide +kernel
theorem dksX0_isRest_1 : cX0_isRest.data.toList.drop 22 = dktX0_isRest_1 := dk_seg dksX0_isRest_0 22 rfl rfl
theorem dksX0_isRest_2 : cX0_isRest.data.toList.drop 44 = dktX0_isRest_2 := dk_seg dksX0_isRest_1 22 rfl rfl
theorem dX0_isRest_0 : decode cX0_isRest 0 = .ok (.aload_n 0, 1) := dk_42 (dk_at dksX0_isRest_0 0 rfl rfl)
theorem dX0_isRest_1 : decode cX0_isRest 1 = .ok (.iload_n 1, 1) := dk_27 (dk_at dksX0_isRest_0 1 rfl rfl)
theorem dX0_isRest_2 : decode cX0_isRest 2 = .ok (.iload_n 1, 1) := dk_27 (dk_at dksX0_isRest_0 2 rfl rfl)
theorem dX0_isRest_3 : decode cX0_isRest 3 = .ok (.iload_n 2, 1) := dk_28 (dk_at dksX0_isRest_0 3 rfl rfl)
theorem dX0_isRest_4 : decode cX0_isRest 4 = .ok (.iconst 1, 1) := dk_4 (dk_at dksX0_isRest_0 4 rfl rfl)
theorem dX0_isRest_5 : decode cX0_isRest 5 = .ok (.iload_n 3, 1) := dk_29 (dk_at dksX0_isRest_0 5 rfl rfl)
theorem dX0_isRest_6 : decode cX0_isRest 6 = .ok (.isub, 1) := dk_100 (dk_at dksX0_isRest_0 6 rfl rfl)
theorem dX0_isRest_7 : decode cX0_isRest 7 = .ok (.iload 4, 2) := dk_21 4 (dk_at dksX0_isRest_0 7 rfl rfl)
theorem dX0_isRest_9 : decode cX0_isRest 9 = .ok (.invokevirtual 422, 3) := dk_182 1 166 (dk_at dksX0_isRest_0 9 rfl rfl)
theorem dX0_isRest_12 : decode cX0_isRest 12 = .ok (.aload_n 0, 1) := dk_42 (dk_at dksX0_isRest_0 12 rfl rfl)
theorem dX0_isRest_13 : decode cX0_isRest 13 = .ok (.iload_n 1, 1) := dk_27 (dk_at dksX0_isRest_0 13 rfl rfl)
theorem dX0_isRest_14 : decode cX0_isRest 14 = .ok (.iload_n 1, 1) := dk_27 (dk_at dksX0_isRest_0 14 rfl rfl)
theorem dX0_isRest_15 : decode cX0_isRest 15 = .ok (.iload_n 2, 1) := dk_28 (dk_at dksX0_isRest_0 15 rfl rfl)
theorem dX0_isRest_16 : decode cX0_isRest 16 = .ok (.iload_n 3, 1) := dk_29 (dk_at dksX0_isRest_0 16 rfl rfl)
theorem dX0_isRest_17 : decode cX0_isRest 17 = .ok (.iload 4, 2) := dk_21 4 (dk_at dksX0_isRest_0 17 rfl rfl)
theorem dX0_isRest_19 : decode cX0_isRest 19 = .ok (.invokevirtual 422, 3) := dk_182 1 166 (dk_at dksX0_isRest_0 19 rfl rfl)
theorem dX0_isRest_22 : decode cX0_isRest 22 = .ok (.if_icmp .gt 32, 3) := dk_163 0 32 (dk_at dksX0_isRest_1 0 rfl rfl)
theorem dX0_isRest_25 : decode cX0_isRest 25 = .ok (.aload_n 0, 1) := dk_42 (dk_at dksX0_isRest_1 3 rfl rfl)
theorem dX0_isRest_26 : decode cX0_isRest 26 = .ok (.iload_n 2, 1) := dk_28 (dk_at dksX0_isRest_1 4 rfl rfl)
theorem dX0_isRest_27 : decode cX0_isRest 27 = .ok (.iload_n 1, 1) := dk_27 (dk_at dksX0_isRest_1 5 rfl rfl)
theorem dX0_isRest_28 : decode cX0_isRest 28 = .ok (.iload_n 2, 1) := dk_28 (dk_at dksX0_isRest_1 6 rfl rfl)
theorem dX0_isRest_29 : decode cX0_isRest 29 = .ok (.iload_n 3, 1) := dk_29 (dk_at dksX0_isRest_1 7 rfl rfl)
theorem dX0_isRest_30 : decode cX0_isRest 30 = .ok (.iconst 1, 1) := dk_4 (dk_at dksX0_isRest_1 8 rfl rfl)
theorem dX0_isRest_31 : decode cX0_isRest 31 = .ok (.iload 4, 2) := dk_21 4 (dk_at dksX0_isRest_1 9 rfl rfl)
theorem dX0_isRest_33 : decode cX0_isRest 33 = .ok (.isub, 1) := dk_100 (dk_at dksX0_isRest_1 11 rfl rfl)
theorem dX0_isRest_34 : decode cX0_isRest 34 = .ok (.invokevirtual 422, 3) := dk_182 1 166 (dk_at dksX0_isRest_1 12 rfl rfl)
theorem dX0_isRest_37 : decode cX0_isRest 37 = .ok (.aload_n 0, 1) := dk_42 (dk_at dksX0_isRest_1 15 rfl rfl)
theorem dX0_isRest_38 : decode cX0_isRest 38 = .ok (.iload_n 2, 1) := dk_28 (dk_at dksX0_isRest_1 16 rfl rfl)
theorem dX0_isRest_39 : decode cX0_isRest 39 = .ok (.iload_n 1, 1) := dk_27 (dk_at dksX0_isRest_1 17 rfl rfl)
theorem dX0_isRest_40 : decode cX0_isRest 40 = .ok (.iload_n 2, 1) := dk_28 (dk_at dksX0_isRest_1 18 rfl rfl)
theorem dX0_isRest_41 : decode cX0_isRest 41 = .ok (.iload_n 3, 1) := dk_29 (dk_at dksX0_isRest_1 19 rfl rfl)
theorem dX0_isRest_42 : decode cX0_isRest 42 = .ok (.iload 4, 2) := dk_21 4 (dk_at dksX0_isRest_1 20 rfl rfl)
theorem dX0_isRest_44 : decode cX0_isRest 44 = .ok (.invokevirtual 422, 3) := dk_182 1 166 (dk_at dksX0_isRest_2 0 rfl rfl)
theorem dX0_isRest_47 : decode cX0_isRest 47 = .ok (.if_icmp .gt 7, 3) := dk_163 0 7 (dk_at dksX0_isRest_2 3 rfl rfl)
theorem dX0_isRest_50 : decode cX0_isRest 50 = .ok (.iconst 1, 1) := dk_4 (dk_at dksX0_isRest_2 6 rfl rfl)
theorem dX0_isRest_51 : decode cX0_isRest 51 = .ok (.goto 4, 3) := dk_167 0 4 (dk_at dksX0_isRest_2 7 rfl rfl)
theorem dX0_isRest_54 : decode cX0_isRest 54 = .ok (.iconst 0, 1) := dk_3 (dk_at dksX0_isRest_2 10 rfl rfl)
theorem dX0_isRest_55 : decode cX0_isRest 55 = .ok (.ireturn, 1) := dk_172 (dk_at dksX0_isRest_2 11 rfl rfl)
abbrev cX0_getsOf : ByteArray := prog_1_method_92_code
def yX0_getsOf : MethodName := ⟨RX0, "getsOf", "(IIIII)I"⟩
def dkwX0_getsOf_3 : List UInt8 := [46, 104, 100, 172]
abbrev dktX0_getsOf_3 : List UInt8 := dkwX0_getsOf_3 ++ []
def dkwX0_getsOf_2 : List UInt8 := [167, 0, 27, 42, 180, 0, 68, 180, 0, 248, 27, 47, 184, 0, 252, 5, 42, 180, 0, 68, 180, 1, 74, 27]
abbrev dktX0_getsOf_2 : List UInt8 := dkwX0_getsOf_2 ++ dktX0_getsOf_3
def dkwX0_getsOf_1 : List UInt8 := [42, 180, 0, 68, 182, 0, 191, 87, 42, 180, 0, 68, 180, 0, 202, 27, 46, 2, 160, 0, 7, 3]
abbrev dktX0_getsOf_1 : List UInt8 := dkwX0_getsOf_1 ++ dktX0_getsOf_2
def dkwX0_getsOf_0 : List UInt8 := [42, 180, 0, 68, 182, 0, 188, 89, 180, 1, 92, 21, 4, 28, 120, 21, 5, 29, 120, 128, 128, 181, 1, 92]
abbrev dktX0_getsOf_0 : List UInt8 := dkwX0_getsOf_0 ++ dktX0_getsOf_1
theorem dksX0_getsOf_0 : cX0_getsOf.data.toList.drop 0 = dktX0_getsOf_0 := by decide +kernel
theorem dksX0_getsOf_1 : cX0_getsOf.data.toList.drop 24 = dktX0_getsOf_1 := dk_seg dksX0_getsOf_0 24 rfl rfl
theorem dksX0_getsOf_2 : cX0_getsOf.data.toList.drop 46 = dktX0_getsOf_2 := dk_seg dksX0_getsOf_1 22 rfl rfl
theorem dksX0_getsOf_3 : cX0_getsOf.data.toList.drop 70 = dktX0_getsOf_3 := dk_seg dksX0_getsOf_2 24 rfl rfl
theorem dX0_getsOf_0 : decode cX0_getsOf 0 = .ok (.aload_n 0, 1) := dk_42 (dk_at dksX0_getsOf_0 0 rfl rfl)
theorem dX0_getsOf_1 : decode cX0_getsOf 1 = .ok (.getfield 68, 3) := dk_180 0 68 (dk_at dksX0_getsOf_0 1 rfl rfl)
theorem dX0_getsOf_4 : decode cX0_getsOf 4 = .ok (.invokevirtual 188, 3) := dk_182 0 188 (dk_at dksX0_getsOf_0 4 rfl rfl)
theorem dX0_getsOf_7 : decode cX0_getsOf 7 = .ok (.dup, 1) := dk_89 (dk_at dksX0_getsOf_0 7 rfl rfl)
theorem dX0_getsOf_8 : decode cX0_getsOf 8 = .ok (.getfield 348, 3) := dk_180 1 92 (dk_at dksX0_getsOf_0 8 rfl rfl)
theorem dX0_getsOf_11 : decode cX0_getsOf 11 = .ok (.iload 4, 2) := dk_21 4 (dk_at dksX0_getsOf_0 11 rfl rfl)
theorem dX0_getsOf_13 : decode cX0_getsOf 13 = .ok (.iload_n 2, 1) := dk_28 (dk_at dksX0_getsOf_0 13 rfl rfl)
theorem dX0_getsOf_14 : decode cX0_getsOf 14 = .ok (.ishl, 1) := dk_120 (dk_at dksX0_getsOf_0 14 rfl rfl)
theorem dX0_getsOf_15 : decode cX0_getsOf 15 = .ok (.iload 5, 2) := dk_21 5 (dk_at dksX0_getsOf_0 15 rfl rfl)
theorem dX0_getsOf_17 : decode cX0_getsOf 17 = .ok (.iload_n 3, 1) := dk_29 (dk_at dksX0_getsOf_0 17 rfl rfl)
theorem dX0_getsOf_18 : decode cX0_getsOf 18 = .ok (.ishl, 1) := dk_120 (dk_at dksX0_getsOf_0 18 rfl rfl)
theorem dX0_getsOf_19 : decode cX0_getsOf 19 = .ok (.ior, 1) := dk_128 (dk_at dksX0_getsOf_0 19 rfl rfl)
theorem dX0_getsOf_20 : decode cX0_getsOf 20 = .ok (.ior, 1) := dk_128 (dk_at dksX0_getsOf_0 20 rfl rfl)
theorem dX0_getsOf_21 : decode cX0_getsOf 21 = .ok (.putfield 348, 3) := dk_181 1 92 (dk_at dksX0_getsOf_0 21 rfl rfl)
theorem dX0_getsOf_24 : decode cX0_getsOf 24 = .ok (.aload_n 0, 1) := dk_42 (dk_at dksX0_getsOf_1 0 rfl rfl)
theorem dX0_getsOf_25 : decode cX0_getsOf 25 = .ok (.getfield 68, 3) := dk_180 0 68 (dk_at dksX0_getsOf_1 1 rfl rfl)
theorem dX0_getsOf_28 : decode cX0_getsOf 28 = .ok (.invokevirtual 191, 3) := dk_182 0 191 (dk_at dksX0_getsOf_1 4 rfl rfl)
theorem dX0_getsOf_31 : decode cX0_getsOf 31 = .ok (.pop, 1) := dk_87 (dk_at dksX0_getsOf_1 7 rfl rfl)
theorem dX0_getsOf_32 : decode cX0_getsOf 32 = .ok (.aload_n 0, 1) := dk_42 (dk_at dksX0_getsOf_1 8 rfl rfl)
theorem dX0_getsOf_33 : decode cX0_getsOf 33 = .ok (.getfield 68, 3) := dk_180 0 68 (dk_at dksX0_getsOf_1 9 rfl rfl)
theorem dX0_getsOf_36 : decode cX0_getsOf 36 = .ok (.getfield 202, 3) := dk_180 0 202 (dk_at dksX0_getsOf_1 12 rfl rfl)
theorem dX0_getsOf_39 : decode cX0_getsOf 39 = .ok (.iload_n 1, 1) := dk_27 (dk_at dksX0_getsOf_1 15 rfl rfl)
theorem dX0_getsOf_40 : decode cX0_getsOf 40 = .ok (.iaload, 1) := dk_46 (dk_at dksX0_getsOf_1 16 rfl rfl)
theorem dX0_getsOf_41 : decode cX0_getsOf 41 = .ok (.iconst (-1), 1) := dk_2 (dk_at dksX0_getsOf_1 17 rfl rfl)
theorem dX0_getsOf_42 : decode cX0_getsOf 42 = .ok (.if_icmp .ne 7, 3) := dk_160 0 7 (dk_at dksX0_getsOf_1 18 rfl rfl)
theorem dX0_getsOf_45 : decode cX0_getsOf 45 = .ok (.iconst 0, 1) := dk_3 (dk_at dksX0_getsOf_1 21 rfl rfl)
theorem dX0_getsOf_46 : decode cX0_getsOf 46 = .ok (.goto 27, 3) := dk_167 0 27 (dk_at dksX0_getsOf_2 0 rfl rfl)
theorem dX0_getsOf_49 : decode cX0_getsOf 49 = .ok (.aload_n 0, 1) := dk_42 (dk_at dksX0_getsOf_2 3 rfl rfl)
theorem dX0_getsOf_50 : decode cX0_getsOf 50 = .ok (.getfield 68, 3) := dk_180 0 68 (dk_at dksX0_getsOf_2 4 rfl rfl)
theorem dX0_getsOf_53 : decode cX0_getsOf 53 = .ok (.getfield 248, 3) := dk_180 0 248 (dk_at dksX0_getsOf_2 7 rfl rfl)
theorem dX0_getsOf_56 : decode cX0_getsOf 56 = .ok (.iload_n 1, 1) := dk_27 (dk_at dksX0_getsOf_2 10 rfl rfl)
theorem dX0_getsOf_57 : decode cX0_getsOf 57 = .ok (.laload, 1) := dk_47 (dk_at dksX0_getsOf_2 11 rfl rfl)
theorem dX0_getsOf_58 : decode cX0_getsOf 58 = .ok (.invokestatic 252, 3) := dk_184 0 252 (dk_at dksX0_getsOf_2 12 rfl rfl)
theorem dX0_getsOf_61 : decode cX0_getsOf 61 = .ok (.iconst 2, 1) := dk_5 (dk_at dksX0_getsOf_2 15 rfl rfl)
theorem dX0_getsOf_62 : decode cX0_getsOf 62 = .ok (.aload_n 0, 1) := dk_42 (dk_at dksX0_getsOf_2 16 rfl rfl)
theorem dX0_getsOf_63 : decode cX0_getsOf 63 = .ok (.getfield 68, 3) := dk_180 0 68 (dk_at dksX0_getsOf_2 17 rfl rfl)
theorem dX0_getsOf_66 : decode cX0_getsOf 66 = .ok (.getfield 330, 3) := dk_180 1 74 (dk_at dksX0_getsOf_2 20 rfl rfl)
theorem dX0_getsOf_69 : decode cX0_getsOf 69 = .ok (.iload_n 1, 1) := dk_27 (dk_at dksX0_getsOf_2 23 rfl rfl)
theorem dX0_getsOf_70 : decode cX0_getsOf 70 = .ok (.iaload, 1) := dk_46 (dk_at dksX0_getsOf_3 0 rfl rfl)
theorem dX0_getsOf_71 : decode cX0_getsOf 71 = .ok (.imul, 1) := dk_104 (dk_at dksX0_getsOf_3 1 rfl rfl)
theorem dX0_getsOf_72 : decode cX0_getsOf 72 = .ok (.isub, 1) := dk_100 (dk_at dksX0_getsOf_3 2 rfl rfl)
theorem dX0_getsOf_73 : decode cX0_getsOf 73 = .ok (.ireturn, 1) := dk_172 (dk_at dksX0_getsOf_3 3 rfl rfl)
abbrev cX0_gets : ByteArray := prog_1_method_95_code
def yX0_gets : MethodName := ⟨RX0, "gets", "(IIII)I"⟩
def dkwX0_gets_1 : List UInt8 := [42, 27, 27, 28, 29, 21, 4, 182, 1, 166, 167, 0, 6, 17, 252, 24, 172]
abbrev dktX0_gets_1 : List UInt8 := dkwX0_gets_1 ++ []
def dkwX0_gets_0 : List UInt8 := [42, 27, 28, 182, 1, 170, 153, 0, 31, 29, 184, 1, 158, 153, 0, 24, 21, 4, 184, 1, 158, 153, 0, 16]
abbrev dktX0_gets_0 : List UInt8 := dkwX0_gets_0 ++ dktX0_gets_1
theorem dksX0_gets_0 : cX0_gets.data.toList.drop 0 = dktX0_gets_0 := by decide +kernel
theorem dksX0_gets_1 : cX0_gets.data.toList.drop 24 = dktX0_gets_1 := dk_seg dksX0_gets_0 24 rfl rfl
theorem dX0_gets_0 : decode cX0_gets 0 = .ok (.aload_n 0, 1) := dk_42 (dk_at dksX0_gets_0 0 rfl rfl)
theorem dX0_gets_1 : decode cX0_gets 1 = .ok (.iload_n 1, 1) := dk_27 (dk_at dksX0_gets_0 1 rfl rfl)
theorem dX0_gets_2 : decode cX0_gets 2 = .ok (.iload_n 2, 1) := dk_28 (dk_at dksX0_gets_0 2 rfl rfl)
theorem dX0_gets_3 : decode cX0_gets 3 = .ok (.invokevirtual 426, 3) := dk_182 1 170 (dk_at dksX0_gets_0 3 rfl rfl)
theorem dX0_gets_6 : decode cX0_gets 6 = .ok (.ifCond .eq 31, 3) := dk_153 0 31 (dk_at dksX0_gets_0 6 rfl rfl)
theorem dX0_gets_9 : decode cX0_gets 9 = .ok (.iload_n 3, 1) := dk_29 (dk_at dksX0_gets_0 9 rfl rfl)
theorem dX0_gets_10 : decode cX0_gets 10 = .ok (.invokestatic 414, 3) := dk_184 1 158 (dk_at dksX0_gets_0 10 rfl rfl)
theorem dX0_gets_13 : decode cX0_gets 13 = .ok (.ifCond .eq 24, 3) := dk_153 0 24 (dk_at dksX0_gets_0 13 rfl rfl)
theorem dX0_gets_16 : decode cX0_gets 16 = .ok (.iload 4, 2) := dk_21 4 (dk_at dksX0_gets_0 16 rfl rfl)
theorem dX0_gets_18 : decode cX0_gets 18 = .ok (.invokestatic 414, 3) := dk_184 1 158 (dk_at dksX0_gets_0 18 rfl rfl)
theorem dX0_gets_21 : decode cX0_gets 21 = .ok (.ifCond .eq 16, 3) := dk_153 0 16 (dk_at dksX0_gets_0 21 rfl rfl)
theorem dX0_gets_24 : decode cX0_gets 24 = .ok (.aload_n 0, 1) := dk_42 (dk_at dksX0_gets_1 0 rfl rfl)
theorem dX0_gets_25 : decode cX0_gets 25 = .ok (.iload_n 1, 1) := dk_27 (dk_at dksX0_gets_1 1 rfl rfl)
theorem dX0_gets_26 : decode cX0_gets 26 = .ok (.iload_n 1, 1) := dk_27 (dk_at dksX0_gets_1 2 rfl rfl)
theorem dX0_gets_27 : decode cX0_gets 27 = .ok (.iload_n 2, 1) := dk_28 (dk_at dksX0_gets_1 3 rfl rfl)
theorem dX0_gets_28 : decode cX0_gets 28 = .ok (.iload_n 3, 1) := dk_29 (dk_at dksX0_gets_1 4 rfl rfl)
theorem dX0_gets_29 : decode cX0_gets 29 = .ok (.iload 4, 2) := dk_21 4 (dk_at dksX0_gets_1 5 rfl rfl)
theorem dX0_gets_31 : decode cX0_gets 31 = .ok (.invokevirtual 422, 3) := dk_182 1 166 (dk_at dksX0_gets_1 7 rfl rfl)
theorem dX0_gets_34 : decode cX0_gets 34 = .ok (.goto 6, 3) := dk_167 0 6 (dk_at dksX0_gets_1 10 rfl rfl)
theorem dX0_gets_37 : decode cX0_gets 37 = .ok (.sipush (-1000), 3) := dk_17 252 24 (dk_at dksX0_gets_1 13 rfl rfl)
theorem dX0_gets_40 : decode cX0_gets 40 = .ok (.ireturn, 1) := dk_172 (dk_at dksX0_gets_1 16 rfl rfl)
abbrev cX0_chance : ByteArray := prog_1_method_98_code
def yX0_chance : MethodName := ⟨RX0, "chance", "(II)J"⟩
def dkwX0_chance_1 : List UInt8 := [182, 1, 184, 20, 0, 145, 42, 182, 0, 126, 184, 1, 177, 28, 184, 1, 162, 167, 0, 6, 20, 1, 187, 173]
abbrev dktX0_chance_1 : List UInt8 := dkwX0_chance_1 ++ []
def dkwX0_chance_0 : List UInt8 := [42, 27, 133, 182, 0, 206, 153, 0, 36, 28, 184, 1, 158, 153, 0, 29, 42, 27, 133, 184, 0, 213]
abbrev dktX0_chance_0 : List UInt8 := dkwX0_chance_0 ++ dktX0_chance_1
theorem dksX0_chance_0 : cX0_chance.data.toList.drop 0 = dktX0_chance_0 := by decide +kernel
theorem dksX0_chance_1 : cX0_chance.data.toList.drop 22 = dktX0_chance_1 := dk_seg dksX0_chance_0 22 rfl rfl
theorem dX0_chance_0 : decode cX0_chance 0 = .ok (.aload_n 0, 1) := dk_42 (dk_at dksX0_chance_0 0 rfl rfl)
theorem dX0_chance_1 : decode cX0_chance 1 = .ok (.iload_n 1, 1) := dk_27 (dk_at dksX0_chance_0 1 rfl rfl)
theorem dX0_chance_2 : decode cX0_chance 2 = .ok (.i2l, 1) := dk_133 (dk_at dksX0_chance_0 2 rfl rfl)
theorem dX0_chance_3 : decode cX0_chance 3 = .ok (.invokevirtual 206, 3) := dk_182 0 206 (dk_at dksX0_chance_0 3 rfl rfl)
theorem dX0_chance_6 : decode cX0_chance 6 = .ok (.ifCond .eq 36, 3) := dk_153 0 36 (dk_at dksX0_chance_0 6 rfl rfl)
theorem dX0_chance_9 : decode cX0_chance 9 = .ok (.iload_n 2, 1) := dk_28 (dk_at dksX0_chance_0 9 rfl rfl)
theorem dX0_chance_10 : decode cX0_chance 10 = .ok (.invokestatic 414, 3) := dk_184 1 158 (dk_at dksX0_chance_0 10 rfl rfl)
theorem dX0_chance_13 : decode cX0_chance 13 = .ok (.ifCond .eq 29, 3) := dk_153 0 29 (dk_at dksX0_chance_0 13 rfl rfl)
theorem dX0_chance_16 : decode cX0_chance 16 = .ok (.aload_n 0, 1) := dk_42 (dk_at dksX0_chance_0 16 rfl rfl)
theorem dX0_chance_17 : decode cX0_chance 17 = .ok (.iload_n 1, 1) := dk_27 (dk_at dksX0_chance_0 17 rfl rfl)
theorem dX0_chance_18 : decode cX0_chance 18 = .ok (.i2l, 1) := dk_133 (dk_at dksX0_chance_0 18 rfl rfl)
theorem dX0_chance_19 : decode cX0_chance 19 = .ok (.invokestatic 213, 3) := dk_184 0 213 (dk_at dksX0_chance_0 19 rfl rfl)
theorem dX0_chance_22 : decode cX0_chance 22 = .ok (.invokevirtual 440, 3) := dk_182 1 184 (dk_at dksX0_chance_1 0 rfl rfl)
theorem dX0_chance_25 : decode cX0_chance 25 = .ok (.ldc2_w 145, 3) := dk_20 0 145 (dk_at dksX0_chance_1 3 rfl rfl)
theorem dX0_chance_28 : decode cX0_chance 28 = .ok (.aload_n 0, 1) := dk_42 (dk_at dksX0_chance_1 6 rfl rfl)
theorem dX0_chance_29 : decode cX0_chance 29 = .ok (.invokevirtual 126, 3) := dk_182 0 126 (dk_at dksX0_chance_1 7 rfl rfl)
theorem dX0_chance_32 : decode cX0_chance 32 = .ok (.invokestatic 433, 3) := dk_184 1 177 (dk_at dksX0_chance_1 10 rfl rfl)
theorem dX0_chance_35 : decode cX0_chance 35 = .ok (.iload_n 2, 1) := dk_28 (dk_at dksX0_chance_1 13 rfl rfl)
theorem dX0_chance_36 : decode cX0_chance 36 = .ok (.invokestatic 418, 3) := dk_184 1 162 (dk_at dksX0_chance_1 14 rfl rfl)
theorem dX0_chance_39 : decode cX0_chance 39 = .ok (.goto 6, 3) := dk_167 0 6 (dk_at dksX0_chance_1 17 rfl rfl)
theorem dX0_chance_42 : decode cX0_chance 42 = .ok (.ldc2_w 443, 3) := dk_20 1 187 (dk_at dksX0_chance_1 20 rfl rfl)
theorem dX0_chance_45 : decode cX0_chance 45 = .ok (.lreturn, 1) := dk_173 (dk_at dksX0_chance_1 23 rfl rfl)
abbrev cX0_sum : ByteArray := prog_1_method_97_code
def yX0_sum : MethodName := ⟨RX0, "sum", "(I)J"⟩
def dkwX0_sum_5 : List UInt8 := [10, 127, 105, 97, 65, 132, 4, 1, 167, 255, 139, 32, 173]
abbrev dktX0_sum_5 : List UInt8 := dkwX0_sum_5 ++ []
def dkwX0_sum_4 : List UInt8 := [182, 1, 95, 133, 167, 0, 22, 42, 180, 0, 68, 180, 1, 19, 42, 180, 0, 47, 180, 0, 142, 47, 27, 123]
abbrev dktX0_sum_4 : List UInt8 := dkwX0_sum_4 ++ dktX0_sum_5
def dkwX0_sum_3 : List UInt8 := [182, 0, 126, 21, 4, 184, 1, 32, 100, 184, 1, 177, 105, 27, 2, 160, 0, 14, 42, 180, 0, 68]
abbrev dktX0_sum_3 : List UInt8 := dkwX0_sum_3 ++ dktX0_sum_4
def dkwX0_sum_2 : List UInt8 := [180, 1, 181, 133, 21, 4, 184, 1, 32, 184, 1, 177, 16, 10, 42, 180, 0, 47, 180, 1, 181, 100, 133, 42]
abbrev dktX0_sum_2 : List UInt8 := dkwX0_sum_2 ++ dktX0_sum_3
def dkwX0_sum_1 : List UInt8 := [180, 1, 92, 21, 4, 128, 181, 1, 92, 42, 180, 0, 68, 182, 0, 191, 87, 32, 42, 180, 0, 47]
abbrev dktX0_sum_1 : List UInt8 := dkwX0_sum_1 ++ dktX0_sum_2
def dkwX0_sum_0 : List UInt8 := [9, 65, 3, 54, 4, 21, 4, 42, 182, 1, 80, 163, 0, 114, 42, 180, 0, 68, 182, 0, 188, 89]
abbrev dktX0_sum_0 : List UInt8 := dkwX0_sum_0 ++ dktX0_sum_1
theorem dksX0_sum_0 : cX0_sum.data.toList.drop 0 = dktX0_sum_0 := by decide +kernel
theorem dksX0_sum_1 : cX0_sum.data.toList.drop 22 = dktX0_sum_1 := dk_seg dksX0_sum_0 22 rfl rfl
theorem dksX0_sum_2 : cX0_sum.data.toList.drop 44 = dktX0_sum_2 := dk_seg dksX0_sum_1 22 rfl rfl
theorem dksX0_sum_3 : cX0_sum.data.toList.drop 68 = dktX0_sum_3 := dk_seg dksX0_sum_2 24 rfl rfl
theorem dksX0_sum_4 : cX0_sum.data.toList.drop 90 = dktX0_sum_4 := dk_seg dksX0_sum_3 22 rfl rfl
theorem dksX0_sum_5 : cX0_sum.data.toList.drop 114 = dktX0_sum_5 := dk_seg dksX0_sum_4 24 rfl rfl
theorem dX0_sum_0 : decode cX0_sum 0 = .ok (.lconst 0, 1) := dk_9 (dk_at dksX0_sum_0 0 rfl rfl)
theorem dX0_sum_1 : decode cX0_sum 1 = .ok (.lstore_n 2, 1) := dk_65 (dk_at dksX0_sum_0 1 rfl rfl)
theorem dX0_sum_2 : decode cX0_sum 2 = .ok (.iconst 0, 1) := dk_3 (dk_at dksX0_sum_0 2 rfl rfl)
theorem dX0_sum_3 : decode cX0_sum 3 = .ok (.istore 4, 2) := dk_54 4 (dk_at dksX0_sum_0 3 rfl rfl)
theorem dX0_sum_5 : decode cX0_sum 5 = .ok (.iload 4, 2) := dk_21 4 (dk_at dksX0_sum_0 5 rfl rfl)
theorem dX0_sum_7 : decode cX0_sum 7 = .ok (.aload_n 0, 1) := dk_42 (dk_at dksX0_sum_0 7 rfl rfl)
theorem dX0_sum_8 : decode cX0_sum 8 = .ok (.invokevirtual 336, 3) := dk_182 1 80 (dk_at dksX0_sum_0 8 rfl rfl)
theorem dX0_sum_11 : decode cX0_sum 11 = .ok (.if_icmp .gt 114, 3) := dk_163 0 114 (dk_at dksX0_sum_0 11 rfl rfl)
theorem dX0_sum_14 : decode cX0_sum 14 = .ok (.aload_n 0, 1) := dk_42 (dk_at dksX0_sum_0 14 rfl rfl)
theorem dX0_sum_15 : decode cX0_sum 15 = .ok (.getfield 68, 3) := dk_180 0 68 (dk_at dksX0_sum_0 15 rfl rfl)
theorem dX0_sum_18 : decode cX0_sum 18 = .ok (.invokevirtual 188, 3) := dk_182 0 188 (dk_at dksX0_sum_0 18 rfl rfl)
theorem dX0_sum_21 : decode cX0_sum 21 = .ok (.dup, 1) := dk_89 (dk_at dksX0_sum_0 21 rfl rfl)
theorem dX0_sum_22 : decode cX0_sum 22 = .ok (.getfield 348, 3) := dk_180 1 92 (dk_at dksX0_sum_1 0 rfl rfl)
theorem dX0_sum_25 : decode cX0_sum 25 = .ok (.iload 4, 2) := dk_21 4 (dk_at dksX0_sum_1 3 rfl rfl)
theorem dX0_sum_27 : decode cX0_sum 27 = .ok (.ior, 1) := dk_128 (dk_at dksX0_sum_1 5 rfl rfl)
theorem dX0_sum_28 : decode cX0_sum 28 = .ok (.putfield 348, 3) := dk_181 1 92 (dk_at dksX0_sum_1 6 rfl rfl)
theorem dX0_sum_31 : decode cX0_sum 31 = .ok (.aload_n 0, 1) := dk_42 (dk_at dksX0_sum_1 9 rfl rfl)
theorem dX0_sum_32 : decode cX0_sum 32 = .ok (.getfield 68, 3) := dk_180 0 68 (dk_at dksX0_sum_1 10 rfl rfl)
theorem dX0_sum_35 : decode cX0_sum 35 = .ok (.invokevirtual 191, 3) := dk_182 0 191 (dk_at dksX0_sum_1 13 rfl rfl)
theorem dX0_sum_38 : decode cX0_sum 38 = .ok (.pop, 1) := dk_87 (dk_at dksX0_sum_1 16 rfl rfl)
theorem dX0_sum_39 : decode cX0_sum 39 = .ok (.lload_n 2, 1) := dk_32 (dk_at dksX0_sum_1 17 rfl rfl)
theorem dX0_sum_40 : decode cX0_sum 40 = .ok (.aload_n 0, 1) := dk_42 (dk_at dksX0_sum_1 18 rfl rfl)
theorem dX0_sum_41 : decode cX0_sum 41 = .ok (.getfield 47, 3) := dk_180 0 47 (dk_at dksX0_sum_1 19 rfl rfl)
theorem dX0_sum_44 : decode cX0_sum 44 = .ok (.getfield 437, 3) := dk_180 1 181 (dk_at dksX0_sum_2 0 rfl rfl)
theorem dX0_sum_47 : decode cX0_sum 47 = .ok (.i2l, 1) := dk_133 (dk_at dksX0_sum_2 3 rfl rfl)
theorem dX0_sum_48 : decode cX0_sum 48 = .ok (.iload 4, 2) := dk_21 4 (dk_at dksX0_sum_2 4 rfl rfl)
theorem dX0_sum_50 : decode cX0_sum 50 = .ok (.invokestatic 288, 3) := dk_184 1 32 (dk_at dksX0_sum_2 6 rfl rfl)
theorem dX0_sum_53 : decode cX0_sum 53 = .ok (.invokestatic 433, 3) := dk_184 1 177 (dk_at dksX0_sum_2 9 rfl rfl)
theorem dX0_sum_56 : decode cX0_sum 56 = .ok (.bipush 10, 2) := dk_16 10 (dk_at dksX0_sum_2 12 rfl rfl)
theorem dX0_sum_58 : decode cX0_sum 58 = .ok (.aload_n 0, 1) := dk_42 (dk_at dksX0_sum_2 14 rfl rfl)
theorem dX0_sum_59 : decode cX0_sum 59 = .ok (.getfield 47, 3) := dk_180 0 47 (dk_at dksX0_sum_2 15 rfl rfl)
theorem dX0_sum_62 : decode cX0_sum 62 = .ok (.getfield 437, 3) := dk_180 1 181 (dk_at dksX0_sum_2 18 rfl rfl)
theorem dX0_sum_65 : decode cX0_sum 65 = .ok (.isub, 1) := dk_100 (dk_at dksX0_sum_2 21 rfl rfl)
theorem dX0_sum_66 : decode cX0_sum 66 = .ok (.i2l, 1) := dk_133 (dk_at dksX0_sum_2 22 rfl rfl)
theorem dX0_sum_67 : decode cX0_sum 67 = .ok (.aload_n 0, 1) := dk_42 (dk_at dksX0_sum_2 23 rfl rfl)
theorem dX0_sum_68 : decode cX0_sum 68 = .ok (.invokevirtual 126, 3) := dk_182 0 126 (dk_at dksX0_sum_3 0 rfl rfl)
theorem dX0_sum_71 : decode cX0_sum 71 = .ok (.iload 4, 2) := dk_21 4 (dk_at dksX0_sum_3 3 rfl rfl)
theorem dX0_sum_73 : decode cX0_sum 73 = .ok (.invokestatic 288, 3) := dk_184 1 32 (dk_at dksX0_sum_3 5 rfl rfl)
theorem dX0_sum_76 : decode cX0_sum 76 = .ok (.isub, 1) := dk_100 (dk_at dksX0_sum_3 8 rfl rfl)
theorem dX0_sum_77 : decode cX0_sum 77 = .ok (.invokestatic 433, 3) := dk_184 1 177 (dk_at dksX0_sum_3 9 rfl rfl)
theorem dX0_sum_80 : decode cX0_sum 80 = .ok (.lmul, 1) := dk_105 (dk_at dksX0_sum_3 12 rfl rfl)
theorem dX0_sum_81 : decode cX0_sum 81 = .ok (.iload_n 1, 1) := dk_27 (dk_at dksX0_sum_3 13 rfl rfl)
theorem dX0_sum_82 : decode cX0_sum 82 = .ok (.iconst (-1), 1) := dk_2 (dk_at dksX0_sum_3 14 rfl rfl)
theorem dX0_sum_83 : decode cX0_sum 83 = .ok (.if_icmp .ne 14, 3) := dk_160 0 14 (dk_at dksX0_sum_3 15 rfl rfl)
theorem dX0_sum_86 : decode cX0_sum 86 = .ok (.aload_n 0, 1) := dk_42 (dk_at dksX0_sum_3 18 rfl rfl)
theorem dX0_sum_87 : decode cX0_sum 87 = .ok (.getfield 68, 3) := dk_180 0 68 (dk_at dksX0_sum_3 19 rfl rfl)
theorem dX0_sum_90 : decode cX0_sum 90 = .ok (.invokevirtual 351, 3) := dk_182 1 95 (dk_at dksX0_sum_4 0 rfl rfl)
theorem dX0_sum_93 : decode cX0_sum 93 = .ok (.i2l, 1) := dk_133 (dk_at dksX0_sum_4 3 rfl rfl)
theorem dX0_sum_94 : decode cX0_sum 94 = .ok (.goto 22, 3) := dk_167 0 22 (dk_at dksX0_sum_4 4 rfl rfl)
theorem dX0_sum_97 : decode cX0_sum 97 = .ok (.aload_n 0, 1) := dk_42 (dk_at dksX0_sum_4 7 rfl rfl)
theorem dX0_sum_98 : decode cX0_sum 98 = .ok (.getfield 68, 3) := dk_180 0 68 (dk_at dksX0_sum_4 8 rfl rfl)
theorem dX0_sum_101 : decode cX0_sum 101 = .ok (.getfield 275, 3) := dk_180 1 19 (dk_at dksX0_sum_4 11 rfl rfl)
theorem dX0_sum_104 : decode cX0_sum 104 = .ok (.aload_n 0, 1) := dk_42 (dk_at dksX0_sum_4 14 rfl rfl)
theorem dX0_sum_105 : decode cX0_sum 105 = .ok (.getfield 47, 3) := dk_180 0 47 (dk_at dksX0_sum_4 15 rfl rfl)
theorem dX0_sum_108 : decode cX0_sum 108 = .ok (.getfield 142, 3) := dk_180 0 142 (dk_at dksX0_sum_4 18 rfl rfl)
theorem dX0_sum_111 : decode cX0_sum 111 = .ok (.laload, 1) := dk_47 (dk_at dksX0_sum_4 21 rfl rfl)
theorem dX0_sum_112 : decode cX0_sum 112 = .ok (.iload_n 1, 1) := dk_27 (dk_at dksX0_sum_4 22 rfl rfl)
theorem dX0_sum_113 : decode cX0_sum 113 = .ok (.lshr, 1) := dk_123 (dk_at dksX0_sum_4 23 rfl rfl)
theorem dX0_sum_114 : decode cX0_sum 114 = .ok (.lconst 1, 1) := dk_10 (dk_at dksX0_sum_5 0 rfl rfl)
theorem dX0_sum_115 : decode cX0_sum 115 = .ok (.land, 1) := dk_127 (dk_at dksX0_sum_5 1 rfl rfl)
theorem dX0_sum_116 : decode cX0_sum 116 = .ok (.lmul, 1) := dk_105 (dk_at dksX0_sum_5 2 rfl rfl)
theorem dX0_sum_117 : decode cX0_sum 117 = .ok (.ladd, 1) := dk_97 (dk_at dksX0_sum_5 3 rfl rfl)
theorem dX0_sum_118 : decode cX0_sum 118 = .ok (.lstore_n 2, 1) := dk_65 (dk_at dksX0_sum_5 4 rfl rfl)
theorem dX0_sum_119 : decode cX0_sum 119 = .ok (.iinc 4 1, 3) := dk_132 4 1 (dk_at dksX0_sum_5 5 rfl rfl)
theorem dX0_sum_122 : decode cX0_sum 122 = .ok (.goto (-117), 3) := dk_167 255 139 (dk_at dksX0_sum_5 8 rfl rfl)
theorem dX0_sum_125 : decode cX0_sum 125 = .ok (.lload_n 2, 1) := dk_32 (dk_at dksX0_sum_5 11 rfl rfl)
theorem dX0_sum_126 : decode cX0_sum 126 = .ok (.lreturn, 1) := dk_173 (dk_at dksX0_sum_5 12 rfl rfl)
abbrev cX0_power : ByteArray := prog_1_method_96_code
def yX0_power : MethodName := ⟨RX0, "power", "(JI)J"⟩
def dkwX0_power_0 : List UInt8 := [28, 154, 0, 7, 10, 167, 0, 12, 30, 30, 28, 4, 100, 184, 1, 177, 105, 173]
abbrev dktX0_power_0 : List UInt8 := dkwX0_power_0 ++ []
theorem dksX0_power_0 : cX0_power.data.toList.drop 0 = dktX0_power_0 := by decide +kernel
theorem dX0_power_0 : decode cX0_power 0 = .ok (.iload_n 2, 1) := dk_28 (dk_at dksX0_power_0 0 rfl rfl)
theorem dX0_power_1 : decode cX0_power 1 = .ok (.ifCond .ne 7, 3) := dk_154 0 7 (dk_at dksX0_power_0 1 rfl rfl)
theorem dX0_power_4 : decode cX0_power 4 = .ok (.lconst 1, 1) := dk_10 (dk_at dksX0_power_0 4 rfl rfl)
theorem dX0_power_5 : decode cX0_power 5 = .ok (.goto 12, 3) := dk_167 0 12 (dk_at dksX0_power_0 5 rfl rfl)
theorem dX0_power_8 : decode cX0_power 8 = .ok (.lload_n 0, 1) := dk_30 (dk_at dksX0_power_0 8 rfl rfl)
theorem dX0_power_9 : decode cX0_power 9 = .ok (.lload_n 0, 1) := dk_30 (dk_at dksX0_power_0 9 rfl rfl)
theorem dX0_power_10 : decode cX0_power 10 = .ok (.iload_n 2, 1) := dk_28 (dk_at dksX0_power_0 10 rfl rfl)
theorem dX0_power_11 : decode cX0_power 11 = .ok (.iconst 1, 1) := dk_4 (dk_at dksX0_power_0 11 rfl rfl)
theorem dX0_power_12 : decode cX0_power 12 = .ok (.isub, 1) := dk_100 (dk_at dksX0_power_0 12 rfl rfl)
theorem dX0_power_13 : decode cX0_power 13 = .ok (.invokestatic 433, 3) := dk_184 1 177 (dk_at dksX0_power_0 13 rfl rfl)
theorem dX0_power_16 : decode cX0_power 16 = .ok (.lmul, 1) := dk_105 (dk_at dksX0_power_0 16 rfl rfl)
theorem dX0_power_17 : decode cX0_power 17 = .ok (.lreturn, 1) := dk_173 (dk_at dksX0_power_0 17 rfl rfl)
abbrev cX0_mean : ByteArray := prog_1_method_99_code
def yX0_mean : MethodName := ⟨RX0, "mean", "(I)J"⟩
def dkwX0_mean_1 : List UInt8 := [20, 0, 145, 42, 182, 0, 126, 184, 1, 177, 27, 184, 1, 162, 167, 0, 6, 20, 1, 187, 173]
abbrev dktX0_mean_1 : List UInt8 := dkwX0_mean_1 ++ []
def dkwX0_mean_0 : List UInt8 := [42, 180, 0, 47, 182, 0, 98, 153, 0, 32, 27, 184, 1, 158, 153, 0, 25, 42, 2, 182, 1, 184]
abbrev dktX0_mean_0 : List UInt8 := dkwX0_mean_0 ++ dktX0_mean_1
theorem dksX0_mean_0 : cX0_mean.data.toList.drop 0 = dktX0_mean_0 := by decide +kernel
theorem dksX0_mean_1 : cX0_mean.data.toList.drop 22 = dktX0_mean_1 := dk_seg dksX0_mean_0 22 rfl rfl
theorem dX0_mean_0 : decode cX0_mean 0 = .ok (.aload_n 0, 1) := dk_42 (dk_at dksX0_mean_0 0 rfl rfl)
theorem dX0_mean_1 : decode cX0_mean 1 = .ok (.getfield 47, 3) := dk_180 0 47 (dk_at dksX0_mean_0 1 rfl rfl)
theorem dX0_mean_4 : decode cX0_mean 4 = .ok (.invokevirtual 98, 3) := dk_182 0 98 (dk_at dksX0_mean_0 4 rfl rfl)
theorem dX0_mean_7 : decode cX0_mean 7 = .ok (.ifCond .eq 32, 3) := dk_153 0 32 (dk_at dksX0_mean_0 7 rfl rfl)
theorem dX0_mean_10 : decode cX0_mean 10 = .ok (.iload_n 1, 1) := dk_27 (dk_at dksX0_mean_0 10 rfl rfl)
theorem dX0_mean_11 : decode cX0_mean 11 = .ok (.invokestatic 414, 3) := dk_184 1 158 (dk_at dksX0_mean_0 11 rfl rfl)
theorem dX0_mean_14 : decode cX0_mean 14 = .ok (.ifCond .eq 25, 3) := dk_153 0 25 (dk_at dksX0_mean_0 14 rfl rfl)
theorem dX0_mean_17 : decode cX0_mean 17 = .ok (.aload_n 0, 1) := dk_42 (dk_at dksX0_mean_0 17 rfl rfl)
theorem dX0_mean_18 : decode cX0_mean 18 = .ok (.iconst (-1), 1) := dk_2 (dk_at dksX0_mean_0 18 rfl rfl)
theorem dX0_mean_19 : decode cX0_mean 19 = .ok (.invokevirtual 440, 3) := dk_182 1 184 (dk_at dksX0_mean_0 19 rfl rfl)
theorem dX0_mean_22 : decode cX0_mean 22 = .ok (.ldc2_w 145, 3) := dk_20 0 145 (dk_at dksX0_mean_1 0 rfl rfl)
theorem dX0_mean_25 : decode cX0_mean 25 = .ok (.aload_n 0, 1) := dk_42 (dk_at dksX0_mean_1 3 rfl rfl)
theorem dX0_mean_26 : decode cX0_mean 26 = .ok (.invokevirtual 126, 3) := dk_182 0 126 (dk_at dksX0_mean_1 4 rfl rfl)
theorem dX0_mean_29 : decode cX0_mean 29 = .ok (.invokestatic 433, 3) := dk_184 1 177 (dk_at dksX0_mean_1 7 rfl rfl)
theorem dX0_mean_32 : decode cX0_mean 32 = .ok (.iload_n 1, 1) := dk_27 (dk_at dksX0_mean_1 10 rfl rfl)
theorem dX0_mean_33 : decode cX0_mean 33 = .ok (.invokestatic 418, 3) := dk_184 1 162 (dk_at dksX0_mean_1 11 rfl rfl)
theorem dX0_mean_36 : decode cX0_mean 36 = .ok (.goto 6, 3) := dk_167 0 6 (dk_at dksX0_mean_1 14 rfl rfl)
theorem dX0_mean_39 : decode cX0_mean 39 = .ok (.ldc2_w 443, 3) := dk_20 1 187 (dk_at dksX0_mean_1 17 rfl rfl)
theorem dX0_mean_42 : decode cX0_mean 42 = .ok (.lreturn, 1) := dk_173 (dk_at dksX0_mean_1 20 rfl rfl)
abbrev cX0_drawn : ByteArray := prog_1_method_102_code
def yX0_drawn : MethodName := ⟨RX0, "drawn", "(II)I"⟩
def dkwX0_drawn_2 : List UInt8 := [182, 1, 95, 172]
abbrev dktX0_drawn_2 : List UInt8 := dkwX0_drawn_2 ++ []
def dkwX0_drawn_1 : List UInt8 := [16, 254, 172, 42, 27, 133, 182, 1, 202, 62, 28, 154, 0, 7, 29, 167, 0, 10, 42, 180, 0, 68]
abbrev dktX0_drawn_1 : List UInt8 := dkwX0_drawn_1 ++ dktX0_drawn_2
def dkwX0_drawn_0 : List UInt8 := [42, 180, 0, 47, 182, 0, 98, 153, 0, 17, 27, 184, 1, 199, 153, 0, 10, 28, 184, 1, 158, 154, 0, 6]
abbrev dktX0_drawn_0 : List UInt8 := dkwX0_drawn_0 ++ dktX0_drawn_1
theorem dksX0_drawn_0 : cX0_drawn.data.toList.drop 0 = dktX0_drawn_0 := by decide +kernel
theorem dksX0_drawn_1 : cX0_drawn.data.toList.drop 24 = dktX0_drawn_1 := dk_seg dksX0_drawn_0 24 rfl rfl
theorem dksX0_drawn_2 : cX0_drawn.data.toList.drop 46 = dktX0_drawn_2 := dk_seg dksX0_drawn_1 22 rfl rfl
theorem dX0_drawn_0 : decode cX0_drawn 0 = .ok (.aload_n 0, 1) := dk_42 (dk_at dksX0_drawn_0 0 rfl rfl)
theorem dX0_drawn_1 : decode cX0_drawn 1 = .ok (.getfield 47, 3) := dk_180 0 47 (dk_at dksX0_drawn_0 1 rfl rfl)
theorem dX0_drawn_4 : decode cX0_drawn 4 = .ok (.invokevirtual 98, 3) := dk_182 0 98 (dk_at dksX0_drawn_0 4 rfl rfl)
theorem dX0_drawn_7 : decode cX0_drawn 7 = .ok (.ifCond .eq 17, 3) := dk_153 0 17 (dk_at dksX0_drawn_0 7 rfl rfl)
theorem dX0_drawn_10 : decode cX0_drawn 10 = .ok (.iload_n 1, 1) := dk_27 (dk_at dksX0_drawn_0 10 rfl rfl)
theorem dX0_drawn_11 : decode cX0_drawn 11 = .ok (.invokestatic 455, 3) := dk_184 1 199 (dk_at dksX0_drawn_0 11 rfl rfl)
theorem dX0_drawn_14 : decode cX0_drawn 14 = .ok (.ifCond .eq 10, 3) := dk_153 0 10 (dk_at dksX0_drawn_0 14 rfl rfl)
theorem dX0_drawn_17 : decode cX0_drawn 17 = .ok (.iload_n 2, 1) := dk_28 (dk_at dksX0_drawn_0 17 rfl rfl)
theorem dX0_drawn_18 : decode cX0_drawn 18 = .ok (.invokestatic 414, 3) := dk_184 1 158 (dk_at dksX0_drawn_0 18 rfl rfl)
theorem dX0_drawn_21 : decode cX0_drawn 21 = .ok (.ifCond .ne 6, 3) := dk_154 0 6 (dk_at dksX0_drawn_0 21 rfl rfl)
theorem dX0_drawn_24 : decode cX0_drawn 24 = .ok (.bipush (-2), 2) := dk_16 254 (dk_at dksX0_drawn_1 0 rfl rfl)
theorem dX0_drawn_26 : decode cX0_drawn 26 = .ok (.ireturn, 1) := dk_172 (dk_at dksX0_drawn_1 2 rfl rfl)
theorem dX0_drawn_27 : decode cX0_drawn 27 = .ok (.aload_n 0, 1) := dk_42 (dk_at dksX0_drawn_1 3 rfl rfl)
theorem dX0_drawn_28 : decode cX0_drawn 28 = .ok (.iload_n 1, 1) := dk_27 (dk_at dksX0_drawn_1 4 rfl rfl)
theorem dX0_drawn_29 : decode cX0_drawn 29 = .ok (.i2l, 1) := dk_133 (dk_at dksX0_drawn_1 5 rfl rfl)
theorem dX0_drawn_30 : decode cX0_drawn 30 = .ok (.invokevirtual 458, 3) := dk_182 1 202 (dk_at dksX0_drawn_1 6 rfl rfl)
theorem dX0_drawn_33 : decode cX0_drawn 33 = .ok (.istore_n 3, 1) := dk_62 (dk_at dksX0_drawn_1 9 rfl rfl)
theorem dX0_drawn_34 : decode cX0_drawn 34 = .ok (.iload_n 2, 1) := dk_28 (dk_at dksX0_drawn_1 10 rfl rfl)
theorem dX0_drawn_35 : decode cX0_drawn 35 = .ok (.ifCond .ne 7, 3) := dk_154 0 7 (dk_at dksX0_drawn_1 11 rfl rfl)
theorem dX0_drawn_38 : decode cX0_drawn 38 = .ok (.iload_n 3, 1) := dk_29 (dk_at dksX0_drawn_1 14 rfl rfl)
theorem dX0_drawn_39 : decode cX0_drawn 39 = .ok (.goto 10, 3) := dk_167 0 10 (dk_at dksX0_drawn_1 15 rfl rfl)
theorem dX0_drawn_42 : decode cX0_drawn 42 = .ok (.aload_n 0, 1) := dk_42 (dk_at dksX0_drawn_1 18 rfl rfl)
theorem dX0_drawn_43 : decode cX0_drawn 43 = .ok (.getfield 68, 3) := dk_180 0 68 (dk_at dksX0_drawn_1 19 rfl rfl)
theorem dX0_drawn_46 : decode cX0_drawn 46 = .ok (.invokevirtual 351, 3) := dk_182 1 95 (dk_at dksX0_drawn_2 0 rfl rfl)
theorem dX0_drawn_49 : decode cX0_drawn 49 = .ok (.ireturn, 1) := dk_172 (dk_at dksX0_drawn_2 3 rfl rfl)
abbrev cX0_isSeed : ByteArray := prog_1_method_101_code
def yX0_isSeed : MethodName := ⟨RX0, "isSeed", "(I)Z"⟩
def dkwX0_isSeed_0 : List UInt8 := [26, 133, 9, 20, 1, 197, 184, 0, 11, 172]
abbrev dktX0_isSeed_0 : List UInt8 := dkwX0_isSeed_0 ++ []
theorem dksX0_isSeed_0 : cX0_isSeed.data.toList.drop 0 = dktX0_isSeed_0 := by decide +kernel
theorem dX0_isSeed_0 : decode cX0_isSeed 0 = .ok (.iload_n 0, 1) := dk_26 (dk_at dksX0_isSeed_0 0 rfl rfl)
theorem dX0_isSeed_1 : decode cX0_isSeed 1 = .ok (.i2l, 1) := dk_133 (dk_at dksX0_isSeed_0 1 rfl rfl)
theorem dX0_isSeed_2 : decode cX0_isSeed 2 = .ok (.lconst 0, 1) := dk_9 (dk_at dksX0_isSeed_0 2 rfl rfl)
theorem dX0_isSeed_3 : decode cX0_isSeed 3 = .ok (.ldc2_w 453, 3) := dk_20 1 197 (dk_at dksX0_isSeed_0 3 rfl rfl)
theorem dX0_isSeed_6 : decode cX0_isSeed 6 = .ok (.invokestatic 11, 3) := dk_184 0 11 (dk_at dksX0_isSeed_0 6 rfl rfl)
theorem dX0_isSeed_9 : decode cX0_isSeed 9 = .ok (.ireturn, 1) := dk_172 (dk_at dksX0_isSeed_0 9 rfl rfl)
abbrev cX0_draws : ByteArray := prog_1_method_100_code
def yX0_draws : MethodName := ⟨RX0, "draws", "(J)I"⟩
def dkwX0_draws_4 : List UInt8 := [181, 1, 92, 42, 180, 0, 68, 182, 0, 191, 87, 29, 172]
abbrev dktX0_draws_4 : List UInt8 := dkwX0_draws_4 ++ []
def dkwX0_draws_3 : List UInt8 := [167, 0, 4, 3, 128, 62, 132, 6, 1, 167, 255, 195, 42, 180, 0, 68, 89, 180, 1, 92, 29, 128]
abbrev dktX0_draws_3 : List UInt8 := dkwX0_draws_3 ++ dktX0_draws_4
def dkwX0_draws_2 : List UInt8 := [20, 1, 195, 109, 20, 0, 145, 113, 42, 180, 0, 47, 180, 1, 181, 133, 148, 156, 0, 10, 4, 21, 6, 120]
abbrev dktX0_draws_2 : List UInt8 := dkwX0_draws_2 ++ dktX0_draws_3
def dkwX0_draws_1 : List UInt8 := [162, 0, 58, 20, 1, 189, 22, 4, 105, 20, 1, 191, 97, 20, 1, 193, 113, 55, 4, 29, 22, 4]
abbrev dktX0_draws_1 : List UInt8 := dkwX0_draws_1 ++ dktX0_draws_2
def dkwX0_draws_0 : List UInt8 := [42, 180, 0, 68, 182, 0, 188, 87, 3, 62, 31, 55, 4, 3, 54, 6, 21, 6, 42, 182, 0, 126]
abbrev dktX0_draws_0 : List UInt8 := dkwX0_draws_0 ++ dktX0_draws_1
theorem dksX0_draws_0 : cX0_draws.data.toList.drop 0 = dktX0_draws_0 := by decide +kernel
theorem dksX0_draws_1 : cX0_draws.data.toList.drop 22 = dktX0_draws_1 := dk_seg dksX0_draws_0 22 rfl rfl
theorem dksX0_draws_2 : cX0_draws.data.toList.drop 44 = dktX0_draws_2 := dk_seg dksX0_draws_1 22 rfl rfl
theorem dksX0_draws_3 : cX0_draws.data.toList.drop 68 = dktX0_draws_3 := dk_seg dksX0_draws_2 24 rfl rfl
theorem dksX0_draws_4 : cX0_draws.data.toList.drop 90 = dktX0_draws_4 := dk_seg dksX0_draws_3 22 rfl rfl
theorem dX0_draws_0 : decode cX0_draws 0 = .ok (.aload_n 0, 1) := dk_42 (dk_at dksX0_draws_0 0 rfl rfl)
theorem dX0_draws_1 : decode cX0_draws 1 = .ok (.getfield 68, 3) := dk_180 0 68 (dk_at dksX0_draws_0 1 rfl rfl)
theorem dX0_draws_4 : decode cX0_draws 4 = .ok (.invokevirtual 188, 3) := dk_182 0 188 (dk_at dksX0_draws_0 4 rfl rfl)
theorem dX0_draws_7 : decode cX0_draws 7 = .ok (.pop, 1) := dk_87 (dk_at dksX0_draws_0 7 rfl rfl)
theorem dX0_draws_8 : decode cX0_draws 8 = .ok (.iconst 0, 1) := dk_3 (dk_at dksX0_draws_0 8 rfl rfl)
theorem dX0_draws_9 : decode cX0_draws 9 = .ok (.istore_n 3, 1) := dk_62 (dk_at dksX0_draws_0 9 rfl rfl)
theorem dX0_draws_10 : decode cX0_draws 10 = .ok (.lload_n 1, 1) := dk_31 (dk_at dksX0_draws_0 10 rfl rfl)
theorem dX0_draws_11 : decode cX0_draws 11 = .ok (.lstore 4, 2) := dk_55 4 (dk_at dksX0_draws_0 11 rfl rfl)
theorem dX0_draws_13 : decode cX0_draws 13 = .ok (.iconst 0, 1) := dk_3 (dk_at dksX0_draws_0 13 rfl rfl)
theorem dX0_draws_14 : decode cX0_draws 14 = .ok (.istore 6, 2) := dk_54 6 (dk_at dksX0_draws_0 14 rfl rfl)
theorem dX0_draws_16 : decode cX0_draws 16 = .ok (.iload 6, 2) := dk_21 6 (dk_at dksX0_draws_0 16 rfl rfl)
theorem dX0_draws_18 : decode cX0_draws 18 = .ok (.aload_n 0, 1) := dk_42 (dk_at dksX0_draws_0 18 rfl rfl)
theorem dX0_draws_19 : decode cX0_draws 19 = .ok (.invokevirtual 126, 3) := dk_182 0 126 (dk_at dksX0_draws_0 19 rfl rfl)
theorem dX0_draws_22 : decode cX0_draws 22 = .ok (.if_icmp .ge 58, 3) := dk_162 0 58 (dk_at dksX0_draws_1 0 rfl rfl)
theorem dX0_draws_25 : decode cX0_draws 25 = .ok (.ldc2_w 445, 3) := dk_20 1 189 (dk_at dksX0_draws_1 3 rfl rfl)
theorem dX0_draws_28 : decode cX0_draws 28 = .ok (.lload 4, 2) := dk_22 4 (dk_at dksX0_draws_1 6 rfl rfl)
theorem dX0_draws_30 : decode cX0_draws 30 = .ok (.lmul, 1) := dk_105 (dk_at dksX0_draws_1 8 rfl rfl)
theorem dX0_draws_31 : decode cX0_draws 31 = .ok (.ldc2_w 447, 3) := dk_20 1 191 (dk_at dksX0_draws_1 9 rfl rfl)
theorem dX0_draws_34 : decode cX0_draws 34 = .ok (.ladd, 1) := dk_97 (dk_at dksX0_draws_1 12 rfl rfl)
theorem dX0_draws_35 : decode cX0_draws 35 = .ok (.ldc2_w 449, 3) := dk_20 1 193 (dk_at dksX0_draws_1 13 rfl rfl)
theorem dX0_draws_38 : decode cX0_draws 38 = .ok (.lrem, 1) := dk_113 (dk_at dksX0_draws_1 16 rfl rfl)
theorem dX0_draws_39 : decode cX0_draws 39 = .ok (.lstore 4, 2) := dk_55 4 (dk_at dksX0_draws_1 17 rfl rfl)
theorem dX0_draws_41 : decode cX0_draws 41 = .ok (.iload_n 3, 1) := dk_29 (dk_at dksX0_draws_1 19 rfl rfl)
theorem dX0_draws_42 : decode cX0_draws 42 = .ok (.lload 4, 2) := dk_22 4 (dk_at dksX0_draws_1 20 rfl rfl)
theorem dX0_draws_44 : decode cX0_draws 44 = .ok (.ldc2_w 451, 3) := dk_20 1 195 (dk_at dksX0_draws_2 0 rfl rfl)
theorem dX0_draws_47 : decode cX0_draws 47 = .ok (.ldiv, 1) := dk_109 (dk_at dksX0_draws_2 3 rfl rfl)
theorem dX0_draws_48 : decode cX0_draws 48 = .ok (.ldc2_w 145, 3) := dk_20 0 145 (dk_at dksX0_draws_2 4 rfl rfl)
theorem dX0_draws_51 : decode cX0_draws 51 = .ok (.lrem, 1) := dk_113 (dk_at dksX0_draws_2 7 rfl rfl)
theorem dX0_draws_52 : decode cX0_draws 52 = .ok (.aload_n 0, 1) := dk_42 (dk_at dksX0_draws_2 8 rfl rfl)
theorem dX0_draws_53 : decode cX0_draws 53 = .ok (.getfield 47, 3) := dk_180 0 47 (dk_at dksX0_draws_2 9 rfl rfl)
theorem dX0_draws_56 : decode cX0_draws 56 = .ok (.getfield 437, 3) := dk_180 1 181 (dk_at dksX0_draws_2 12 rfl rfl)
theorem dX0_draws_59 : decode cX0_draws 59 = .ok (.i2l, 1) := dk_133 (dk_at dksX0_draws_2 15 rfl rfl)
theorem dX0_draws_60 : decode cX0_draws 60 = .ok (.lcmp, 1) := dk_148 (dk_at dksX0_draws_2 16 rfl rfl)
theorem dX0_draws_61 : decode cX0_draws 61 = .ok (.ifCond .ge 10, 3) := dk_156 0 10 (dk_at dksX0_draws_2 17 rfl rfl)
theorem dX0_draws_64 : decode cX0_draws 64 = .ok (.iconst 1, 1) := dk_4 (dk_at dksX0_draws_2 20 rfl rfl)
theorem dX0_draws_65 : decode cX0_draws 65 = .ok (.iload 6, 2) := dk_21 6 (dk_at dksX0_draws_2 21 rfl rfl)
theorem dX0_draws_67 : decode cX0_draws 67 = .ok (.ishl, 1) := dk_120 (dk_at dksX0_draws_2 23 rfl rfl)
theorem dX0_draws_68 : decode cX0_draws 68 = .ok (.goto 4, 3) := dk_167 0 4 (dk_at dksX0_draws_3 0 rfl rfl)
theorem dX0_draws_71 : decode cX0_draws 71 = .ok (.iconst 0, 1) := dk_3 (dk_at dksX0_draws_3 3 rfl rfl)
theorem dX0_draws_72 : decode cX0_draws 72 = .ok (.ior, 1) := dk_128 (dk_at dksX0_draws_3 4 rfl rfl)
theorem dX0_draws_73 : decode cX0_draws 73 = .ok (.istore_n 3, 1) := dk_62 (dk_at dksX0_draws_3 5 rfl rfl)
theorem dX0_draws_74 : decode cX0_draws 74 = .ok (.iinc 6 1, 3) := dk_132 6 1 (dk_at dksX0_draws_3 6 rfl rfl)
theorem dX0_draws_77 : decode cX0_draws 77 = .ok (.goto (-61), 3) := dk_167 255 195 (dk_at dksX0_draws_3 9 rfl rfl)
theorem dX0_draws_80 : decode cX0_draws 80 = .ok (.aload_n 0, 1) := dk_42 (dk_at dksX0_draws_3 12 rfl rfl)
theorem dX0_draws_81 : decode cX0_draws 81 = .ok (.getfield 68, 3) := dk_180 0 68 (dk_at dksX0_draws_3 13 rfl rfl)
theorem dX0_draws_84 : decode cX0_draws 84 = .ok (.dup, 1) := dk_89 (dk_at dksX0_draws_3 16 rfl rfl)
theorem dX0_draws_85 : decode cX0_draws 85 = .ok (.getfield 348, 3) := dk_180 1 92 (dk_at dksX0_draws_3 17 rfl rfl)
theorem dX0_draws_88 : decode cX0_draws 88 = .ok (.iload_n 3, 1) := dk_29 (dk_at dksX0_draws_3 20 rfl rfl)
theorem dX0_draws_89 : decode cX0_draws 89 = .ok (.ior, 1) := dk_128 (dk_at dksX0_draws_3 21 rfl rfl)
theorem dX0_draws_90 : decode cX0_draws 90 = .ok (.putfield 348, 3) := dk_181 1 92 (dk_at dksX0_draws_4 0 rfl rfl)
theorem dX0_draws_93 : decode cX0_draws 93 = .ok (.aload_n 0, 1) := dk_42 (dk_at dksX0_draws_4 3 rfl rfl)
theorem dX0_draws_94 : decode cX0_draws 94 = .ok (.getfield 68, 3) := dk_180 0 68 (dk_at dksX0_draws_4 4 rfl rfl)
theorem dX0_draws_97 : decode cX0_draws 97 = .ok (.invokevirtual 191, 3) := dk_182 0 191 (dk_at dksX0_draws_4 7 rfl rfl)
theorem dX0_draws_100 : decode cX0_draws 100 = .ok (.pop, 1) := dk_87 (dk_at dksX0_draws_4 10 rfl rfl)
theorem dX0_draws_101 : decode cX0_draws 101 = .ok (.iload_n 3, 1) := dk_29 (dk_at dksX0_draws_4 11 rfl rfl)
theorem dX0_draws_102 : decode cX0_draws 102 = .ok (.ireturn, 1) := dk_172 (dk_at dksX0_draws_4 12 rfl rfl)
abbrev cX0_luck : ByteArray := prog_1_method_103_code
def yX0_luck : MethodName := ⟨RX0, "luck", "(III)I"⟩
def dkwX0_luck_4 : List UInt8 := [167, 255, 200, 21, 4, 172]
abbrev dktX0_luck_4 : List UInt8 := dkwX0_luck_4 ++ []
def dkwX0_luck_3 : List UInt8 := [47, 29, 133, 184, 0, 213, 184, 0, 217, 153, 0, 7, 4, 167, 0, 4, 3, 96, 54, 4, 132, 5, 1]
abbrev dktX0_luck_3 : List UInt8 := dkwX0_luck_3 ++ dktX0_luck_4
def dkwX0_luck_2 : List UInt8 := [21, 5, 133, 97, 182, 1, 202, 87, 21, 4, 42, 180, 0, 68, 180, 1, 19, 42, 180, 0, 47, 180, 0, 142]
abbrev dktX0_luck_2 : List UInt8 := dkwX0_luck_2 ++ dktX0_luck_3
def dkwX0_luck_1 : List UInt8 := [182, 0, 206, 154, 0, 6, 16, 254, 172, 3, 54, 4, 3, 54, 5, 21, 5, 28, 162, 0, 56, 42, 27, 133]
abbrev dktX0_luck_1 : List UInt8 := dkwX0_luck_1 ++ dktX0_luck_2
def dkwX0_luck_0 : List UInt8 := [27, 184, 1, 199, 153, 0, 24, 28, 133, 10, 20, 1, 205, 184, 0, 11, 153, 0, 12, 42, 29, 133]
abbrev dktX0_luck_0 : List UInt8 := dkwX0_luck_0 ++ dktX0_luck_1
theorem dksX0_luck_0 : cX0_luck.data.toList.drop 0 = dktX0_luck_0 := by decide +kernel
theorem dksX0_luck_1 : cX0_luck.data.toList.drop 22 = dktX0_luck_1 := dk_seg dksX0_luck_0 22 rfl rfl
theorem dksX0_luck_2 : cX0_luck.data.toList.drop 46 = dktX0_luck_2 := dk_seg dksX0_luck_1 24 rfl rfl
theorem dksX0_luck_3 : cX0_luck.data.toList.drop 70 = dktX0_luck_3 := dk_seg dksX0_luck_2 24 rfl rfl
theorem dksX0_luck_4 : cX0_luck.data.toList.drop 93 = dktX0_luck_4 := dk_seg dksX0_luck_3 23 rfl rfl
theorem dX0_luck_0 : decode cX0_luck 0 = .ok (.iload_n 1, 1) := dk_27 (dk_at dksX0_luck_0 0 rfl rfl)
theorem dX0_luck_1 : decode cX0_luck 1 = .ok (.invokestatic 455, 3) := dk_184 1 199 (dk_at dksX0_luck_0 1 rfl rfl)
theorem dX0_luck_4 : decode cX0_luck 4 = .ok (.ifCond .eq 24, 3) := dk_153 0 24 (dk_at dksX0_luck_0 4 rfl rfl)
theorem dX0_luck_7 : decode cX0_luck 7 = .ok (.iload_n 2, 1) := dk_28 (dk_at dksX0_luck_0 7 rfl rfl)
theorem dX0_luck_8 : decode cX0_luck 8 = .ok (.i2l, 1) := dk_133 (dk_at dksX0_luck_0 8 rfl rfl)
theorem dX0_luck_9 : decode cX0_luck 9 = .ok (.lconst 1, 1) := dk_10 (dk_at dksX0_luck_0 9 rfl rfl)
theorem dX0_luck_10 : decode cX0_luck 10 = .ok (.ldc2_w 461, 3) := dk_20 1 205 (dk_at dksX0_luck_0 10 rfl rfl)
theorem dX0_luck_13 : decode cX0_luck 13 = .ok (.invokestatic 11, 3) := dk_184 0 11 (dk_at dksX0_luck_0 13 rfl rfl)
theorem dX0_luck_16 : decode cX0_luck 16 = .ok (.ifCond .eq 12, 3) := dk_153 0 12 (dk_at dksX0_luck_0 16 rfl rfl)
theorem dX0_luck_19 : decode cX0_luck 19 = .ok (.aload_n 0, 1) := dk_42 (dk_at dksX0_luck_0 19 rfl rfl)
theorem dX0_luck_20 : decode cX0_luck 20 = .ok (.iload_n 3, 1) := dk_29 (dk_at dksX0_luck_0 20 rfl rfl)
theorem dX0_luck_21 : decode cX0_luck 21 = .ok (.i2l, 1) := dk_133 (dk_at dksX0_luck_0 21 rfl rfl)
theorem dX0_luck_22 : decode cX0_luck 22 = .ok (.invokevirtual 206, 3) := dk_182 0 206 (dk_at dksX0_luck_1 0 rfl rfl)
theorem dX0_luck_25 : decode cX0_luck 25 = .ok (.ifCond .ne 6, 3) := dk_154 0 6 (dk_at dksX0_luck_1 3 rfl rfl)
theorem dX0_luck_28 : decode cX0_luck 28 = .ok (.bipush (-2), 2) := dk_16 254 (dk_at dksX0_luck_1 6 rfl rfl)
theorem dX0_luck_30 : decode cX0_luck 30 = .ok (.ireturn, 1) := dk_172 (dk_at dksX0_luck_1 8 rfl rfl)
theorem dX0_luck_31 : decode cX0_luck 31 = .ok (.iconst 0, 1) := dk_3 (dk_at dksX0_luck_1 9 rfl rfl)
theorem dX0_luck_32 : decode cX0_luck 32 = .ok (.istore 4, 2) := dk_54 4 (dk_at dksX0_luck_1 10 rfl rfl)
theorem dX0_luck_34 : decode cX0_luck 34 = .ok (.iconst 0, 1) := dk_3 (dk_at dksX0_luck_1 12 rfl rfl)
theorem dX0_luck_35 : decode cX0_luck 35 = .ok (.istore 5, 2) := dk_54 5 (dk_at dksX0_luck_1 13 rfl rfl)
theorem dX0_luck_37 : decode cX0_luck 37 = .ok (.iload 5, 2) := dk_21 5 (dk_at dksX0_luck_1 15 rfl rfl)
theorem dX0_luck_39 : decode cX0_luck 39 = .ok (.iload_n 2, 1) := dk_28 (dk_at dksX0_luck_1 17 rfl rfl)
theorem dX0_luck_40 : decode cX0_luck 40 = .ok (.if_icmp .ge 56, 3) := dk_162 0 56 (dk_at dksX0_luck_1 18 rfl rfl)
theorem dX0_luck_43 : decode cX0_luck 43 = .ok (.aload_n 0, 1) := dk_42 (dk_at dksX0_luck_1 21 rfl rfl)
theorem dX0_luck_44 : decode cX0_luck 44 = .ok (.iload_n 1, 1) := dk_27 (dk_at dksX0_luck_1 22 rfl rfl)
theorem dX0_luck_45 : decode cX0_luck 45 = .ok (.i2l, 1) := dk_133 (dk_at dksX0_luck_1 23 rfl rfl)
theorem dX0_luck_46 : decode cX0_luck 46 = .ok (.iload 5, 2) := dk_21 5 (dk_at dksX0_luck_2 0 rfl rfl)
theorem dX0_luck_48 : decode cX0_luck 48 = .ok (.i2l, 1) := dk_133 (dk_at dksX0_luck_2 2 rfl rfl)
theorem dX0_luck_49 : decode cX0_luck 49 = .ok (.ladd, 1) := dk_97 (dk_at dksX0_luck_2 3 rfl rfl)
theorem dX0_luck_50 : decode cX0_luck 50 = .ok (.invokevirtual 458, 3) := dk_182 1 202 (dk_at dksX0_luck_2 4 rfl rfl)
theorem dX0_luck_53 : decode cX0_luck 53 = .ok (.pop, 1) := dk_87 (dk_at dksX0_luck_2 7 rfl rfl)
theorem dX0_luck_54 : decode cX0_luck 54 = .ok (.iload 4, 2) := dk_21 4 (dk_at dksX0_luck_2 8 rfl rfl)
theorem dX0_luck_56 : decode cX0_luck 56 = .ok (.aload_n 0, 1) := dk_42 (dk_at dksX0_luck_2 10 rfl rfl)
theorem dX0_luck_57 : decode cX0_luck 57 = .ok (.getfield 68, 3) := dk_180 0 68 (dk_at dksX0_luck_2 11 rfl rfl)
theorem dX0_luck_60 : decode cX0_luck 60 = .ok (.getfield 275, 3) := dk_180 1 19 (dk_at dksX0_luck_2 14 rfl rfl)
theorem dX0_luck_63 : decode cX0_luck 63 = .ok (.aload_n 0, 1) := dk_42 (dk_at dksX0_luck_2 17 rfl rfl)
theorem dX0_luck_64 : decode cX0_luck 64 = .ok (.getfield 47, 3) := dk_180 0 47 (dk_at dksX0_luck_2 18 rfl rfl)
theorem dX0_luck_67 : decode cX0_luck 67 = .ok (.getfield 142, 3) := dk_180 0 142 (dk_at dksX0_luck_2 21 rfl rfl)
theorem dX0_luck_70 : decode cX0_luck 70 = .ok (.laload, 1) := dk_47 (dk_at dksX0_luck_3 0 rfl rfl)
theorem dX0_luck_71 : decode cX0_luck 71 = .ok (.iload_n 3, 1) := dk_29 (dk_at dksX0_luck_3 1 rfl rfl)
theorem dX0_luck_72 : decode cX0_luck 72 = .ok (.i2l, 1) := dk_133 (dk_at dksX0_luck_3 2 rfl rfl)
theorem dX0_luck_73 : decode cX0_luck 73 = .ok (.invokestatic 213, 3) := dk_184 0 213 (dk_at dksX0_luck_3 3 rfl rfl)
theorem dX0_luck_76 : decode cX0_luck 76 = .ok (.invokestatic 217, 3) := dk_184 0 217 (dk_at dksX0_luck_3 6 rfl rfl)
theorem dX0_luck_79 : decode cX0_luck 79 = .ok (.ifCond .eq 7, 3) := dk_153 0 7 (dk_at dksX0_luck_3 9 rfl rfl)
theorem dX0_luck_82 : decode cX0_luck 82 = .ok (.iconst 1, 1) := dk_4 (dk_at dksX0_luck_3 12 rfl rfl)
theorem dX0_luck_83 : decode cX0_luck 83 = .ok (.goto 4, 3) := dk_167 0 4 (dk_at dksX0_luck_3 13 rfl rfl)
theorem dX0_luck_86 : decode cX0_luck 86 = .ok (.iconst 0, 1) := dk_3 (dk_at dksX0_luck_3 16 rfl rfl)
theorem dX0_luck_87 : decode cX0_luck 87 = .ok (.iadd, 1) := dk_96 (dk_at dksX0_luck_3 17 rfl rfl)
theorem dX0_luck_88 : decode cX0_luck 88 = .ok (.istore 4, 2) := dk_54 4 (dk_at dksX0_luck_3 18 rfl rfl)
theorem dX0_luck_90 : decode cX0_luck 90 = .ok (.iinc 5 1, 3) := dk_132 5 1 (dk_at dksX0_luck_3 20 rfl rfl)
theorem dX0_luck_93 : decode cX0_luck 93 = .ok (.goto (-56), 3) := dk_167 255 200 (dk_at dksX0_luck_4 0 rfl rfl)
theorem dX0_luck_96 : decode cX0_luck 96 = .ok (.iload 4, 2) := dk_21 4 (dk_at dksX0_luck_4 3 rfl rfl)
theorem dX0_luck_98 : decode cX0_luck 98 = .ok (.ireturn, 1) := dk_172 (dk_at dksX0_luck_4 5 rfl rfl)
abbrev cX0_bridge : ByteArray := prog_1_method_105_code
def yX0_bridge : MethodName := ⟨RX0, "bridge", "(I)I"⟩
def dkwX0_bridge_1 : List UInt8 := [182, 1, 214, 167, 0, 5, 16, 254, 172]
abbrev dktX0_bridge_1 : List UInt8 := dkwX0_bridge_1 ++ []
def dkwX0_bridge_0 : List UInt8 := [42, 27, 133, 182, 0, 206, 153, 0, 23, 42, 187, 0, 177, 89, 4, 27, 133, 184, 0, 213, 183, 1, 211]
abbrev dktX0_bridge_0 : List UInt8 := dkwX0_bridge_0 ++ dktX0_bridge_1
theorem dksX0_bridge_0 : cX0_bridge.data.toList.drop 0 = dktX0_bridge_0 := by decide +kernel
theorem dksX0_bridge_1 : cX0_bridge.data.toList.drop 23 = dktX0_bridge_1 := dk_seg dksX0_bridge_0 23 rfl rfl
theorem dX0_bridge_0 : decode cX0_bridge 0 = .ok (.aload_n 0, 1) := dk_42 (dk_at dksX0_bridge_0 0 rfl rfl)
theorem dX0_bridge_1 : decode cX0_bridge 1 = .ok (.iload_n 1, 1) := dk_27 (dk_at dksX0_bridge_0 1 rfl rfl)
theorem dX0_bridge_2 : decode cX0_bridge 2 = .ok (.i2l, 1) := dk_133 (dk_at dksX0_bridge_0 2 rfl rfl)
theorem dX0_bridge_3 : decode cX0_bridge 3 = .ok (.invokevirtual 206, 3) := dk_182 0 206 (dk_at dksX0_bridge_0 3 rfl rfl)
theorem dX0_bridge_6 : decode cX0_bridge 6 = .ok (.ifCond .eq 23, 3) := dk_153 0 23 (dk_at dksX0_bridge_0 6 rfl rfl)
theorem dX0_bridge_9 : decode cX0_bridge 9 = .ok (.aload_n 0, 1) := dk_42 (dk_at dksX0_bridge_0 9 rfl rfl)
theorem dX0_bridge_10 : decode cX0_bridge 10 = .ok (.new 177, 3) := dk_187 0 177 (dk_at dksX0_bridge_0 10 rfl rfl)
theorem dX0_bridge_13 : decode cX0_bridge 13 = .ok (.dup, 1) := dk_89 (dk_at dksX0_bridge_0 13 rfl rfl)
theorem dX0_bridge_14 : decode cX0_bridge 14 = .ok (.iconst 1, 1) := dk_4 (dk_at dksX0_bridge_0 14 rfl rfl)
theorem dX0_bridge_15 : decode cX0_bridge 15 = .ok (.iload_n 1, 1) := dk_27 (dk_at dksX0_bridge_0 15 rfl rfl)
theorem dX0_bridge_16 : decode cX0_bridge 16 = .ok (.i2l, 1) := dk_133 (dk_at dksX0_bridge_0 16 rfl rfl)
theorem dX0_bridge_17 : decode cX0_bridge 17 = .ok (.invokestatic 213, 3) := dk_184 0 213 (dk_at dksX0_bridge_0 17 rfl rfl)
theorem dX0_bridge_20 : decode cX0_bridge 20 = .ok (.invokespecial 467, 3) := dk_183 1 211 (dk_at dksX0_bridge_0 20 rfl rfl)
theorem dX0_bridge_23 : decode cX0_bridge 23 = .ok (.invokevirtual 470, 3) := dk_182 1 214 (dk_at dksX0_bridge_1 0 rfl rfl)
theorem dX0_bridge_26 : decode cX0_bridge 26 = .ok (.goto 5, 3) := dk_167 0 5 (dk_at dksX0_bridge_1 3 rfl rfl)
theorem dX0_bridge_29 : decode cX0_bridge 29 = .ok (.bipush (-2), 2) := dk_16 254 (dk_at dksX0_bridge_1 6 rfl rfl)
theorem dX0_bridge_31 : decode cX0_bridge 31 = .ok (.ireturn, 1) := dk_172 (dk_at dksX0_bridge_1 8 rfl rfl)
abbrev cX0_adds : ByteArray := prog_1_method_104_code
def yX0_adds : MethodName := ⟨RX0, "adds", "(LWidowRoads$Deed;)I"⟩
def dkwX0_adds_1 : List UInt8 := [180, 0, 174, 43, 185, 1, 207, 2, 0, 87, 42, 182, 0, 194, 182, 1, 95, 172]
abbrev dktX0_adds_1 : List UInt8 := dkwX0_adds_1 ++ []
def dkwX0_adds_0 : List UInt8 := [42, 180, 0, 47, 180, 0, 174, 185, 0, 120, 1, 0, 16, 30, 160, 0, 6, 16, 251, 172, 42, 180, 0, 47]
abbrev dktX0_adds_0 : List UInt8 := dkwX0_adds_0 ++ dktX0_adds_1
theorem dksX0_adds_0 : cX0_adds.data.toList.drop 0 = dktX0_adds_0 := by decide +kernel
theorem dksX0_adds_1 : cX0_adds.data.toList.drop 24 = dktX0_adds_1 := dk_seg dksX0_adds_0 24 rfl rfl
theorem dX0_adds_0 : decode cX0_adds 0 = .ok (.aload_n 0, 1) := dk_42 (dk_at dksX0_adds_0 0 rfl rfl)
theorem dX0_adds_1 : decode cX0_adds 1 = .ok (.getfield 47, 3) := dk_180 0 47 (dk_at dksX0_adds_0 1 rfl rfl)
theorem dX0_adds_4 : decode cX0_adds 4 = .ok (.getfield 174, 3) := dk_180 0 174 (dk_at dksX0_adds_0 4 rfl rfl)
theorem dX0_adds_7 : decode cX0_adds 7 = .ok (.invokeinterface 120 1, 5) := by decide +kernel
theorem dX0_adds_12 : decode cX0_adds 12 = .ok (.bipush 30, 2) := dk_16 30 (dk_at dksX0_adds_0 12 rfl rfl)
theorem dX0_adds_14 : decode cX0_adds 14 = .ok (.if_icmp .ne 6, 3) := dk_160 0 6 (dk_at dksX0_adds_0 14 rfl rfl)
theorem dX0_adds_17 : decode cX0_adds 17 = .ok (.bipush (-5), 2) := dk_16 251 (dk_at dksX0_adds_0 17 rfl rfl)
theorem dX0_adds_19 : decode cX0_adds 19 = .ok (.ireturn, 1) := dk_172 (dk_at dksX0_adds_0 19 rfl rfl)
theorem dX0_adds_20 : decode cX0_adds 20 = .ok (.aload_n 0, 1) := dk_42 (dk_at dksX0_adds_0 20 rfl rfl)
theorem dX0_adds_21 : decode cX0_adds 21 = .ok (.getfield 47, 3) := dk_180 0 47 (dk_at dksX0_adds_0 21 rfl rfl)
theorem dX0_adds_24 : decode cX0_adds 24 = .ok (.getfield 174, 3) := dk_180 0 174 (dk_at dksX0_adds_1 0 rfl rfl)
theorem dX0_adds_27 : decode cX0_adds 27 = .ok (.aload_n 1, 1) := dk_43 (dk_at dksX0_adds_1 3 rfl rfl)
theorem dX0_adds_28 : decode cX0_adds 28 = .ok (.invokeinterface 463 2, 5) := by decide +kernel
theorem dX0_adds_33 : decode cX0_adds 33 = .ok (.pop, 1) := dk_87 (dk_at dksX0_adds_1 9 rfl rfl)
theorem dX0_adds_34 : decode cX0_adds 34 = .ok (.aload_n 0, 1) := dk_42 (dk_at dksX0_adds_1 10 rfl rfl)
theorem dX0_adds_35 : decode cX0_adds 35 = .ok (.invokevirtual 194, 3) := dk_182 0 194 (dk_at dksX0_adds_1 11 rfl rfl)
theorem dX0_adds_38 : decode cX0_adds 38 = .ok (.invokevirtual 351, 3) := dk_182 1 95 (dk_at dksX0_adds_1 14 rfl rfl)
theorem dX0_adds_41 : decode cX0_adds 41 = .ok (.ireturn, 1) := dk_172 (dk_at dksX0_adds_1 17 rfl rfl)
abbrev cX0_keeps : ByteArray := prog_1_method_106_code
def yX0_keeps : MethodName := ⟨RX0, "keeps", "(I)I"⟩
def dkwX0_keeps_1 : List UInt8 := [167, 0, 5, 16, 254, 172]
abbrev dktX0_keeps_1 : List UInt8 := dkwX0_keeps_1 ++ []
def dkwX0_keeps_0 : List UInt8 := [42, 27, 133, 182, 0, 138, 153, 0, 19, 42, 187, 0, 177, 89, 3, 27, 183, 1, 211, 182, 1, 214]
abbrev dktX0_keeps_0 : List UInt8 := dkwX0_keeps_0 ++ dktX0_keeps_1
theorem dksX0_keeps_0 : cX0_keeps.data.toList.drop 0 = dktX0_keeps_0 := by decide +kernel
theorem dksX0_keeps_1 : cX0_keeps.data.toList.drop 22 = dktX0_keeps_1 := dk_seg dksX0_keeps_0 22 rfl rfl
theorem dX0_keeps_0 : decode cX0_keeps 0 = .ok (.aload_n 0, 1) := dk_42 (dk_at dksX0_keeps_0 0 rfl rfl)
theorem dX0_keeps_1 : decode cX0_keeps 1 = .ok (.iload_n 1, 1) := dk_27 (dk_at dksX0_keeps_0 1 rfl rfl)
theorem dX0_keeps_2 : decode cX0_keeps 2 = .ok (.i2l, 1) := dk_133 (dk_at dksX0_keeps_0 2 rfl rfl)
theorem dX0_keeps_3 : decode cX0_keeps 3 = .ok (.invokevirtual 138, 3) := dk_182 0 138 (dk_at dksX0_keeps_0 3 rfl rfl)
theorem dX0_keeps_6 : decode cX0_keeps 6 = .ok (.ifCond .eq 19, 3) := dk_153 0 19 (dk_at dksX0_keeps_0 6 rfl rfl)
theorem dX0_keeps_9 : decode cX0_keeps 9 = .ok (.aload_n 0, 1) := dk_42 (dk_at dksX0_keeps_0 9 rfl rfl)
theorem dX0_keeps_10 : decode cX0_keeps 10 = .ok (.new 177, 3) := dk_187 0 177 (dk_at dksX0_keeps_0 10 rfl rfl)
theorem dX0_keeps_13 : decode cX0_keeps 13 = .ok (.dup, 1) := dk_89 (dk_at dksX0_keeps_0 13 rfl rfl)
theorem dX0_keeps_14 : decode cX0_keeps 14 = .ok (.iconst 0, 1) := dk_3 (dk_at dksX0_keeps_0 14 rfl rfl)
theorem dX0_keeps_15 : decode cX0_keeps 15 = .ok (.iload_n 1, 1) := dk_27 (dk_at dksX0_keeps_0 15 rfl rfl)
theorem dX0_keeps_16 : decode cX0_keeps 16 = .ok (.invokespecial 467, 3) := dk_183 1 211 (dk_at dksX0_keeps_0 16 rfl rfl)
theorem dX0_keeps_19 : decode cX0_keeps 19 = .ok (.invokevirtual 470, 3) := dk_182 1 214 (dk_at dksX0_keeps_0 19 rfl rfl)
theorem dX0_keeps_22 : decode cX0_keeps 22 = .ok (.goto 5, 3) := dk_167 0 5 (dk_at dksX0_keeps_1 0 rfl rfl)
theorem dX0_keeps_25 : decode cX0_keeps 25 = .ok (.bipush (-2), 2) := dk_16 254 (dk_at dksX0_keeps_1 3 rfl rfl)
theorem dX0_keeps_27 : decode cX0_keeps 27 = .ok (.ireturn, 1) := dk_172 (dk_at dksX0_keeps_1 5 rfl rfl)
abbrev cX0_undo : ByteArray := prog_1_method_107_code
def yX0_undo : MethodName := ⟨RX0, "undo", "()I"⟩
def dkwX0_undo_3 : List UInt8 := [185, 0, 120, 1, 0, 172]
abbrev dktX0_undo_3 : List UInt8 := dkwX0_undo_3 ++ []
def dkwX0_undo_2 : List UInt8 := [180, 0, 174, 185, 0, 120, 1, 0, 4, 100, 185, 1, 221, 2, 0, 87, 42, 180, 0, 47, 180, 0, 174]
abbrev dktX0_undo_2 : List UInt8 := dkwX0_undo_2 ++ dktX0_undo_3
def dkwX0_undo_1 : List UInt8 := [185, 1, 218, 1, 0, 153, 0, 6, 16, 251, 172, 42, 180, 0, 47, 180, 0, 174, 42, 180, 0, 47]
abbrev dktX0_undo_1 : List UInt8 := dkwX0_undo_1 ++ dktX0_undo_2
def dkwX0_undo_0 : List UInt8 := [42, 180, 0, 47, 182, 0, 98, 154, 0, 6, 16, 254, 172, 42, 180, 0, 47, 180, 0, 174]
abbrev dktX0_undo_0 : List UInt8 := dkwX0_undo_0 ++ dktX0_undo_1
theorem dksX0_undo_0 : cX0_undo.data.toList.drop 0 = dktX0_undo_0 := by decide +kernel
theorem dksX0_undo_1 : cX0_undo.data.toList.drop 20 = dktX0_undo_1 := dk_seg dksX0_undo_0 20 rfl rfl
theorem dksX0_undo_2 : cX0_undo.data.toList.drop 42 = dktX0_undo_2 := dk_seg dksX0_undo_1 22 rfl rfl
theorem dksX0_undo_3 : cX0_undo.data.toList.drop 65 = dktX0_undo_3 := dk_seg dksX0_undo_2 23 rfl rfl
theorem dX0_undo_0 : decode cX0_undo 0 = .ok (.aload_n 0, 1) := dk_42 (dk_at dksX0_undo_0 0 rfl rfl)
theorem dX0_undo_1 : decode cX0_undo 1 = .ok (.getfield 47, 3) := dk_180 0 47 (dk_at dksX0_undo_0 1 rfl rfl)
theorem dX0_undo_4 : decode cX0_undo 4 = .ok (.invokevirtual 98, 3) := dk_182 0 98 (dk_at dksX0_undo_0 4 rfl rfl)
theorem dX0_undo_7 : decode cX0_undo 7 = .ok (.ifCond .ne 6, 3) := dk_154 0 6 (dk_at dksX0_undo_0 7 rfl rfl)
theorem dX0_undo_10 : decode cX0_undo 10 = .ok (.bipush (-2), 2) := dk_16 254 (dk_at dksX0_undo_0 10 rfl rfl)
theorem dX0_undo_12 : decode cX0_undo 12 = .ok (.ireturn, 1) := dk_172 (dk_at dksX0_undo_0 12 rfl rfl)
theorem dX0_undo_13 : decode cX0_undo 13 = .ok (.aload_n 0, 1) := dk_42 (dk_at dksX0_undo_0 13 rfl rfl)
theorem dX0_undo_14 : decode cX0_undo 14 = .ok (.getfield 47, 3) := dk_180 0 47 (dk_at dksX0_undo_0 14 rfl rfl)
theorem dX0_undo_17 : decode cX0_undo 17 = .ok (.getfield 174, 3) := dk_180 0 174 (dk_at dksX0_undo_0 17 rfl rfl)
theorem dX0_undo_20 : decode cX0_undo 20 = .ok (.invokeinterface 474 1, 5) := by decide +kernel
theorem dX0_undo_25 : decode cX0_undo 25 = .ok (.ifCond .eq 6, 3) := dk_153 0 6 (dk_at dksX0_undo_1 5 rfl rfl)
theorem dX0_undo_28 : decode cX0_undo 28 = .ok (.bipush (-5), 2) := dk_16 251 (dk_at dksX0_undo_1 8 rfl rfl)
theorem dX0_undo_30 : decode cX0_undo 30 = .ok (.ireturn, 1) := dk_172 (dk_at dksX0_undo_1 10 rfl rfl)
theorem dX0_undo_31 : decode cX0_undo 31 = .ok (.aload_n 0, 1) := dk_42 (dk_at dksX0_undo_1 11 rfl rfl)
theorem dX0_undo_32 : decode cX0_undo 32 = .ok (.getfield 47, 3) := dk_180 0 47 (dk_at dksX0_undo_1 12 rfl rfl)
theorem dX0_undo_35 : decode cX0_undo 35 = .ok (.getfield 174, 3) := dk_180 0 174 (dk_at dksX0_undo_1 15 rfl rfl)
theorem dX0_undo_38 : decode cX0_undo 38 = .ok (.aload_n 0, 1) := dk_42 (dk_at dksX0_undo_1 18 rfl rfl)
theorem dX0_undo_39 : decode cX0_undo 39 = .ok (.getfield 47, 3) := dk_180 0 47 (dk_at dksX0_undo_1 19 rfl rfl)
theorem dX0_undo_42 : decode cX0_undo 42 = .ok (.getfield 174, 3) := dk_180 0 174 (dk_at dksX0_undo_2 0 rfl rfl)
theorem dX0_undo_45 : decode cX0_undo 45 = .ok (.invokeinterface 120 1, 5) := by decide +kernel
theorem dX0_undo_50 : decode cX0_undo 50 = .ok (.iconst 1, 1) := dk_4 (dk_at dksX0_undo_2 8 rfl rfl)
theorem dX0_undo_51 : decode cX0_undo 51 = .ok (.isub, 1) := dk_100 (dk_at dksX0_undo_2 9 rfl rfl)
theorem dX0_undo_52 : decode cX0_undo 52 = .ok (.invokeinterface 477 2, 5) := by decide +kernel
theorem dX0_undo_57 : decode cX0_undo 57 = .ok (.pop, 1) := dk_87 (dk_at dksX0_undo_2 15 rfl rfl)
theorem dX0_undo_58 : decode cX0_undo 58 = .ok (.aload_n 0, 1) := dk_42 (dk_at dksX0_undo_2 16 rfl rfl)
theorem dX0_undo_59 : decode cX0_undo 59 = .ok (.getfield 47, 3) := dk_180 0 47 (dk_at dksX0_undo_2 17 rfl rfl)
theorem dX0_undo_62 : decode cX0_undo 62 = .ok (.getfield 174, 3) := dk_180 0 174 (dk_at dksX0_undo_2 20 rfl rfl)
theorem dX0_undo_65 : decode cX0_undo 65 = .ok (.invokeinterface 120 1, 5) := by decide +kernel
theorem dX0_undo_70 : decode cX0_undo 70 = .ok (.ireturn, 1) := dk_172 (dk_at dksX0_undo_3 5 rfl rfl)
abbrev cX0_anew : ByteArray := prog_1_method_108_code
def yX0_anew : MethodName := ⟨RX0, "anew", "()I"⟩
def dkwX0_anew_1 : List UInt8 := [185, 0, 120, 1, 0, 60, 42, 180, 0, 47, 180, 0, 174, 185, 1, 224, 1, 0, 27, 172]
abbrev dktX0_anew_1 : List UInt8 := dkwX0_anew_1 ++ []
def dkwX0_anew_0 : List UInt8 := [42, 180, 0, 47, 182, 0, 98, 154, 0, 6, 16, 254, 172, 42, 180, 0, 47, 180, 0, 174]
abbrev dktX0_anew_0 : List UInt8 := dkwX0_anew_0 ++ dktX0_anew_1
theorem dksX0_anew_0 : cX0_anew.data.toList.drop 0 = dktX0_anew_0 := by decide +kernel
theorem dksX0_anew_1 : cX0_anew.data.toList.drop 20 = dktX0_anew_1 := dk_seg dksX0_anew_0 20 rfl rfl
theorem dX0_anew_0 : decode cX0_anew 0 = .ok (.aload_n 0, 1) := dk_42 (dk_at dksX0_anew_0 0 rfl rfl)
theorem dX0_anew_1 : decode cX0_anew 1 = .ok (.getfield 47, 3) := dk_180 0 47 (dk_at dksX0_anew_0 1 rfl rfl)
theorem dX0_anew_4 : decode cX0_anew 4 = .ok (.invokevirtual 98, 3) := dk_182 0 98 (dk_at dksX0_anew_0 4 rfl rfl)
theorem dX0_anew_7 : decode cX0_anew 7 = .ok (.ifCond .ne 6, 3) := dk_154 0 6 (dk_at dksX0_anew_0 7 rfl rfl)
theorem dX0_anew_10 : decode cX0_anew 10 = .ok (.bipush (-2), 2) := dk_16 254 (dk_at dksX0_anew_0 10 rfl rfl)
theorem dX0_anew_12 : decode cX0_anew 12 = .ok (.ireturn, 1) := dk_172 (dk_at dksX0_anew_0 12 rfl rfl)
theorem dX0_anew_13 : decode cX0_anew 13 = .ok (.aload_n 0, 1) := dk_42 (dk_at dksX0_anew_0 13 rfl rfl)
theorem dX0_anew_14 : decode cX0_anew 14 = .ok (.getfield 47, 3) := dk_180 0 47 (dk_at dksX0_anew_0 14 rfl rfl)
theorem dX0_anew_17 : decode cX0_anew 17 = .ok (.getfield 174, 3) := dk_180 0 174 (dk_at dksX0_anew_0 17 rfl rfl)
theorem dX0_anew_20 : decode cX0_anew 20 = .ok (.invokeinterface 120 1, 5) := by decide +kernel
theorem dX0_anew_25 : decode cX0_anew 25 = .ok (.istore_n 1, 1) := dk_60 (dk_at dksX0_anew_1 5 rfl rfl)
theorem dX0_anew_26 : decode cX0_anew 26 = .ok (.aload_n 0, 1) := dk_42 (dk_at dksX0_anew_1 6 rfl rfl)
theorem dX0_anew_27 : decode cX0_anew 27 = .ok (.getfield 47, 3) := dk_180 0 47 (dk_at dksX0_anew_1 7 rfl rfl)
theorem dX0_anew_30 : decode cX0_anew 30 = .ok (.getfield 174, 3) := dk_180 0 174 (dk_at dksX0_anew_1 10 rfl rfl)
theorem dX0_anew_33 : decode cX0_anew 33 = .ok (.invokeinterface 480 1, 5) := by decide +kernel
theorem dX0_anew_38 : decode cX0_anew 38 = .ok (.iload_n 1, 1) := dk_27 (dk_at dksX0_anew_1 18 rfl rfl)
theorem dX0_anew_39 : decode cX0_anew 39 = .ok (.ireturn, 1) := dk_172 (dk_at dksX0_anew_1 19 rfl rfl)
abbrev cX0_rate : ByteArray := prog_1_method_109_code
def yX0_rate : MethodName := ⟨RX0, "rate", "(II)I"⟩
def dkwX0_rate_2 : List UInt8 := [180, 0, 232, 62, 42, 27, 182, 0, 195, 28, 181, 0, 232, 29, 172]
abbrev dktX0_rate_2 : List UInt8 := dkwX0_rate_2 ++ []
def dkwX0_rate_1 : List UInt8 := [42, 180, 0, 47, 180, 0, 174, 185, 1, 218, 1, 0, 154, 0, 6, 16, 251, 172, 42, 27, 182, 0, 195]
abbrev dktX0_rate_1 : List UInt8 := dkwX0_rate_1 ++ dktX0_rate_2
def dkwX0_rate_0 : List UInt8 := [42, 27, 133, 182, 0, 138, 153, 0, 15, 28, 133, 10, 20, 0, 239, 184, 0, 11, 154, 0, 6, 16, 254, 172]
abbrev dktX0_rate_0 : List UInt8 := dkwX0_rate_0 ++ dktX0_rate_1
theorem dksX0_rate_0 : cX0_rate.data.toList.drop 0 = dktX0_rate_0 := by decide +kernel
theorem dksX0_rate_1 : cX0_rate.data.toList.drop 24 = dktX0_rate_1 := dk_seg dksX0_rate_0 24 rfl rfl
theorem dksX0_rate_2 : cX0_rate.data.toList.drop 47 = dktX0_rate_2 := dk_seg dksX0_rate_1 23 rfl rfl
theorem dX0_rate_0 : decode cX0_rate 0 = .ok (.aload_n 0, 1) := dk_42 (dk_at dksX0_rate_0 0 rfl rfl)
theorem dX0_rate_1 : decode cX0_rate 1 = .ok (.iload_n 1, 1) := dk_27 (dk_at dksX0_rate_0 1 rfl rfl)
theorem dX0_rate_2 : decode cX0_rate 2 = .ok (.i2l, 1) := dk_133 (dk_at dksX0_rate_0 2 rfl rfl)
theorem dX0_rate_3 : decode cX0_rate 3 = .ok (.invokevirtual 138, 3) := dk_182 0 138 (dk_at dksX0_rate_0 3 rfl rfl)
theorem dX0_rate_6 : decode cX0_rate 6 = .ok (.ifCond .eq 15, 3) := dk_153 0 15 (dk_at dksX0_rate_0 6 rfl rfl)
theorem dX0_rate_9 : decode cX0_rate 9 = .ok (.iload_n 2, 1) := dk_28 (dk_at dksX0_rate_0 9 rfl rfl)
theorem dX0_rate_10 : decode cX0_rate 10 = .ok (.i2l, 1) := dk_133 (dk_at dksX0_rate_0 10 rfl rfl)
theorem dX0_rate_11 : decode cX0_rate 11 = .ok (.lconst 1, 1) := dk_10 (dk_at dksX0_rate_0 11 rfl rfl)
theorem dX0_rate_12 : decode cX0_rate 12 = .ok (.ldc2_w 239, 3) := dk_20 0 239 (dk_at dksX0_rate_0 12 rfl rfl)
theorem dX0_rate_15 : decode cX0_rate 15 = .ok (.invokestatic 11, 3) := dk_184 0 11 (dk_at dksX0_rate_0 15 rfl rfl)
theorem dX0_rate_18 : decode cX0_rate 18 = .ok (.ifCond .ne 6, 3) := dk_154 0 6 (dk_at dksX0_rate_0 18 rfl rfl)
theorem dX0_rate_21 : decode cX0_rate 21 = .ok (.bipush (-2), 2) := dk_16 254 (dk_at dksX0_rate_0 21 rfl rfl)
theorem dX0_rate_23 : decode cX0_rate 23 = .ok (.ireturn, 1) := dk_172 (dk_at dksX0_rate_0 23 rfl rfl)
theorem dX0_rate_24 : decode cX0_rate 24 = .ok (.aload_n 0, 1) := dk_42 (dk_at dksX0_rate_1 0 rfl rfl)
theorem dX0_rate_25 : decode cX0_rate 25 = .ok (.getfield 47, 3) := dk_180 0 47 (dk_at dksX0_rate_1 1 rfl rfl)
theorem dX0_rate_28 : decode cX0_rate 28 = .ok (.getfield 174, 3) := dk_180 0 174 (dk_at dksX0_rate_1 4 rfl rfl)
theorem dX0_rate_31 : decode cX0_rate 31 = .ok (.invokeinterface 474 1, 5) := by decide +kernel
theorem dX0_rate_36 : decode cX0_rate 36 = .ok (.ifCond .ne 6, 3) := dk_154 0 6 (dk_at dksX0_rate_1 12 rfl rfl)
theorem dX0_rate_39 : decode cX0_rate 39 = .ok (.bipush (-5), 2) := dk_16 251 (dk_at dksX0_rate_1 15 rfl rfl)
theorem dX0_rate_41 : decode cX0_rate 41 = .ok (.ireturn, 1) := dk_172 (dk_at dksX0_rate_1 17 rfl rfl)
theorem dX0_rate_42 : decode cX0_rate 42 = .ok (.aload_n 0, 1) := dk_42 (dk_at dksX0_rate_1 18 rfl rfl)
theorem dX0_rate_43 : decode cX0_rate 43 = .ok (.iload_n 1, 1) := dk_27 (dk_at dksX0_rate_1 19 rfl rfl)
theorem dX0_rate_44 : decode cX0_rate 44 = .ok (.invokevirtual 195, 3) := dk_182 0 195 (dk_at dksX0_rate_1 20 rfl rfl)
theorem dX0_rate_47 : decode cX0_rate 47 = .ok (.getfield 232, 3) := dk_180 0 232 (dk_at dksX0_rate_2 0 rfl rfl)
theorem dX0_rate_50 : decode cX0_rate 50 = .ok (.istore_n 3, 1) := dk_62 (dk_at dksX0_rate_2 3 rfl rfl)
theorem dX0_rate_51 : decode cX0_rate 51 = .ok (.aload_n 0, 1) := dk_42 (dk_at dksX0_rate_2 4 rfl rfl)
theorem dX0_rate_52 : decode cX0_rate 52 = .ok (.iload_n 1, 1) := dk_27 (dk_at dksX0_rate_2 5 rfl rfl)
theorem dX0_rate_53 : decode cX0_rate 53 = .ok (.invokevirtual 195, 3) := dk_182 0 195 (dk_at dksX0_rate_2 6 rfl rfl)
theorem dX0_rate_56 : decode cX0_rate 56 = .ok (.iload_n 2, 1) := dk_28 (dk_at dksX0_rate_2 9 rfl rfl)
theorem dX0_rate_57 : decode cX0_rate 57 = .ok (.putfield 232, 3) := dk_181 0 232 (dk_at dksX0_rate_2 10 rfl rfl)
theorem dX0_rate_60 : decode cX0_rate 60 = .ok (.iload_n 3, 1) := dk_29 (dk_at dksX0_rate_2 13 rfl rfl)
theorem dX0_rate_61 : decode cX0_rate 61 = .ok (.ireturn, 1) := dk_172 (dk_at dksX0_rate_2 14 rfl rfl)
abbrev cX0_count : ByteArray := prog_1_method_110_code
def yX0_count : MethodName := ⟨RX0, "count", "(I)I"⟩
def dkwX0_count_8 : List UInt8 := [61, 132, 5, 1, 167, 255, 224, 28, 172, 2, 172]
abbrev dktX0_count_8 : List UInt8 := dkwX0_count_8 ++ []
def dkwX0_count_7 : List UInt8 := [162, 0, 31, 45, 21, 5, 50, 58, 6, 28, 25, 6, 180, 1, 101, 199, 0, 7, 3, 167, 0, 4, 4, 96]
abbrev dktX0_count_7 : List UInt8 := dkwX0_count_7 ++ dktX0_count_8
def dkwX0_count_6 : List UInt8 := [180, 0, 86, 172, 3, 61, 42, 180, 0, 19, 78, 45, 190, 54, 4, 3, 54, 5, 21, 5, 21, 4]
abbrev dktX0_count_6 : List UInt8 := dkwX0_count_6 ++ dktX0_count_7
def dkwX0_count_5 : List UInt8 := [42, 180, 0, 47, 180, 0, 174, 185, 0, 120, 1, 0, 172, 42, 180, 0, 47, 180, 0, 105, 172, 42]
abbrev dktX0_count_5 : List UInt8 := dkwX0_count_5 ++ dktX0_count_6
def dkwX0_count_4 : List UInt8 := [185, 0, 120, 1, 0, 172, 42, 180, 0, 47, 180, 0, 135, 185, 0, 120, 1, 0, 172, 42, 182, 0, 126, 172]
abbrev dktX0_count_4 : List UInt8 := dkwX0_count_4 ++ dktX0_count_5
def dkwX0_count_3 : List UInt8 := [42, 180, 0, 47, 180, 0, 147, 172, 42, 180, 0, 47, 180, 0, 150, 172, 42, 180, 0, 47, 180, 0, 155]
abbrev dktX0_count_3 : List UInt8 := dkwX0_count_3 ++ dktX0_count_4
def dkwX0_count_2 : List UInt8 := [42, 180, 0, 47, 180, 0, 142, 172, 42, 180, 0, 47, 180, 1, 227, 172, 42, 180, 0, 47, 180, 1, 181, 172]
abbrev dktX0_count_2 : List UInt8 := dkwX0_count_2 ++ dktX0_count_3
def dkwX0_count_1 : List UInt8 := [170, 0, 0, 0, 0, 0, 211, 0, 0, 0, 0, 0, 0, 0, 11, 0, 0, 0, 63, 0, 0, 0, 71, 0, 0, 0, 79, 0, 0, 0, 87, 0, 0, 0, 95, 0, 0, 0, 103, 0, 0, 0, 116, 0, 0, 0, 129, 0, 0, 0, 134, 0, 0, 0, 147, 0, 0, 0, 155, 0, 0, 0, 160]
abbrev dktX0_count_1 : List UInt8 := dkwX0_count_1 ++ dktX0_count_2
def dkwX0_count_0 : List UInt8 := [27]
abbrev dktX0_count_0 : List UInt8 := dkwX0_count_0 ++ dktX0_count_1
theorem dksX0_count_0 : cX0_count.data.toList.drop 0 = dktX0_count_0 := by decide +kernel
theorem dksX0_count_1 : cX0_count.data.toList.drop 1 = dktX0_count_1 := dk_seg dksX0_count_0 1 rfl rfl
theorem dksX0_count_2 : cX0_count.data.toList.drop 64 = dktX0_count_2 := dk_seg dksX0_count_1 63 rfl rfl
theorem dksX0_count_3 : cX0_count.data.toList.drop 88 = dktX0_count_3 := dk_seg dksX0_count_2 24 rfl rfl
theorem dksX0_count_4 : cX0_count.data.toList.drop 111 = dktX0_count_4 := dk_seg dksX0_count_3 23 rfl rfl
theorem dksX0_count_5 : cX0_count.data.toList.drop 135 = dktX0_count_5 := dk_seg dksX0_count_4 24 rfl rfl
theorem dksX0_count_6 : cX0_count.data.toList.drop 157 = dktX0_count_6 := dk_seg dksX0_count_5 22 rfl rfl
theorem dksX0_count_7 : cX0_count.data.toList.drop 179 = dktX0_count_7 := dk_seg dksX0_count_6 22 rfl rfl
theorem dksX0_count_8 : cX0_count.data.toList.drop 203 = dktX0_count_8 := dk_seg dksX0_count_7 24 rfl rfl
theorem dX0_count_0 : decode cX0_count 0 = .ok (.iload_n 1, 1) := dk_27 (dk_at dksX0_count_0 0 rfl rfl)
theorem dX0_count_1 : decode cX0_count 1 = .ok (.tableswitch 211 0 11 #[63, 71, 79, 87, 95, 103, 116, 129, 134, 147, 155, 160], 63) := by decide +kernel
theorem dX0_count_64 : decode cX0_count 64 = .ok (.aload_n 0, 1) := dk_42 (dk_at dksX0_count_2 0 rfl rfl)
theorem dX0_count_65 : decode cX0_count 65 = .ok (.getfield 47, 3) := dk_180 0 47 (dk_at dksX0_count_2 1 rfl rfl)
theorem dX0_count_68 : decode cX0_count 68 = .ok (.getfield 142, 3) := dk_180 0 142 (dk_at dksX0_count_2 4 rfl rfl)
theorem dX0_count_71 : decode cX0_count 71 = .ok (.ireturn, 1) := dk_172 (dk_at dksX0_count_2 7 rfl rfl)
theorem dX0_count_72 : decode cX0_count 72 = .ok (.aload_n 0, 1) := dk_42 (dk_at dksX0_count_2 8 rfl rfl)
theorem dX0_count_73 : decode cX0_count 73 = .ok (.getfield 47, 3) := dk_180 0 47 (dk_at dksX0_count_2 9 rfl rfl)
theorem dX0_count_76 : decode cX0_count 76 = .ok (.getfield 483, 3) := dk_180 1 227 (dk_at dksX0_count_2 12 rfl rfl)
theorem dX0_count_79 : decode cX0_count 79 = .ok (.ireturn, 1) := dk_172 (dk_at dksX0_count_2 15 rfl rfl)
theorem dX0_count_80 : decode cX0_count 80 = .ok (.aload_n 0, 1) := dk_42 (dk_at dksX0_count_2 16 rfl rfl)
theorem dX0_count_81 : decode cX0_count 81 = .ok (.getfield 47, 3) := dk_180 0 47 (dk_at dksX0_count_2 17 rfl rfl)
theorem dX0_count_84 : decode cX0_count 84 = .ok (.getfield 437, 3) := dk_180 1 181 (dk_at dksX0_count_2 20 rfl rfl)
theorem dX0_count_87 : decode cX0_count 87 = .ok (.ireturn, 1) := dk_172 (dk_at dksX0_count_2 23 rfl rfl)
theorem dX0_count_88 : decode cX0_count 88 = .ok (.aload_n 0, 1) := dk_42 (dk_at dksX0_count_3 0 rfl rfl)
theorem dX0_count_89 : decode cX0_count 89 = .ok (.getfield 47, 3) := dk_180 0 47 (dk_at dksX0_count_3 1 rfl rfl)
theorem dX0_count_92 : decode cX0_count 92 = .ok (.getfield 147, 3) := dk_180 0 147 (dk_at dksX0_count_3 4 rfl rfl)
theorem dX0_count_95 : decode cX0_count 95 = .ok (.ireturn, 1) := dk_172 (dk_at dksX0_count_3 7 rfl rfl)
theorem dX0_count_96 : decode cX0_count 96 = .ok (.aload_n 0, 1) := dk_42 (dk_at dksX0_count_3 8 rfl rfl)
theorem dX0_count_97 : decode cX0_count 97 = .ok (.getfield 47, 3) := dk_180 0 47 (dk_at dksX0_count_3 9 rfl rfl)
theorem dX0_count_100 : decode cX0_count 100 = .ok (.getfield 150, 3) := dk_180 0 150 (dk_at dksX0_count_3 12 rfl rfl)
theorem dX0_count_103 : decode cX0_count 103 = .ok (.ireturn, 1) := dk_172 (dk_at dksX0_count_3 15 rfl rfl)
theorem dX0_count_104 : decode cX0_count 104 = .ok (.aload_n 0, 1) := dk_42 (dk_at dksX0_count_3 16 rfl rfl)
theorem dX0_count_105 : decode cX0_count 105 = .ok (.getfield 47, 3) := dk_180 0 47 (dk_at dksX0_count_3 17 rfl rfl)
theorem dX0_count_108 : decode cX0_count 108 = .ok (.getfield 155, 3) := dk_180 0 155 (dk_at dksX0_count_3 20 rfl rfl)
theorem dX0_count_111 : decode cX0_count 111 = .ok (.invokeinterface 120 1, 5) := by decide +kernel
theorem dX0_count_116 : decode cX0_count 116 = .ok (.ireturn, 1) := dk_172 (dk_at dksX0_count_4 5 rfl rfl)
theorem dX0_count_117 : decode cX0_count 117 = .ok (.aload_n 0, 1) := dk_42 (dk_at dksX0_count_4 6 rfl rfl)
theorem dX0_count_118 : decode cX0_count 118 = .ok (.getfield 47, 3) := dk_180 0 47 (dk_at dksX0_count_4 7 rfl rfl)
theorem dX0_count_121 : decode cX0_count 121 = .ok (.getfield 135, 3) := dk_180 0 135 (dk_at dksX0_count_4 10 rfl rfl)
theorem dX0_count_124 : decode cX0_count 124 = .ok (.invokeinterface 120 1, 5) := by decide +kernel
theorem dX0_count_129 : decode cX0_count 129 = .ok (.ireturn, 1) := dk_172 (dk_at dksX0_count_4 18 rfl rfl)
theorem dX0_count_130 : decode cX0_count 130 = .ok (.aload_n 0, 1) := dk_42 (dk_at dksX0_count_4 19 rfl rfl)
theorem dX0_count_131 : decode cX0_count 131 = .ok (.invokevirtual 126, 3) := dk_182 0 126 (dk_at dksX0_count_4 20 rfl rfl)
theorem dX0_count_134 : decode cX0_count 134 = .ok (.ireturn, 1) := dk_172 (dk_at dksX0_count_4 23 rfl rfl)
theorem dX0_count_135 : decode cX0_count 135 = .ok (.aload_n 0, 1) := dk_42 (dk_at dksX0_count_5 0 rfl rfl)
theorem dX0_count_136 : decode cX0_count 136 = .ok (.getfield 47, 3) := dk_180 0 47 (dk_at dksX0_count_5 1 rfl rfl)
theorem dX0_count_139 : decode cX0_count 139 = .ok (.getfield 174, 3) := dk_180 0 174 (dk_at dksX0_count_5 4 rfl rfl)
theorem dX0_count_142 : decode cX0_count 142 = .ok (.invokeinterface 120 1, 5) := by decide +kernel
theorem dX0_count_147 : decode cX0_count 147 = .ok (.ireturn, 1) := dk_172 (dk_at dksX0_count_5 12 rfl rfl)
theorem dX0_count_148 : decode cX0_count 148 = .ok (.aload_n 0, 1) := dk_42 (dk_at dksX0_count_5 13 rfl rfl)
theorem dX0_count_149 : decode cX0_count 149 = .ok (.getfield 47, 3) := dk_180 0 47 (dk_at dksX0_count_5 14 rfl rfl)
theorem dX0_count_152 : decode cX0_count 152 = .ok (.getfield 105, 3) := dk_180 0 105 (dk_at dksX0_count_5 17 rfl rfl)
theorem dX0_count_155 : decode cX0_count 155 = .ok (.ireturn, 1) := dk_172 (dk_at dksX0_count_5 20 rfl rfl)
theorem dX0_count_156 : decode cX0_count 156 = .ok (.aload_n 0, 1) := dk_42 (dk_at dksX0_count_5 21 rfl rfl)
theorem dX0_count_157 : decode cX0_count 157 = .ok (.getfield 86, 3) := dk_180 0 86 (dk_at dksX0_count_6 0 rfl rfl)
theorem dX0_count_160 : decode cX0_count 160 = .ok (.ireturn, 1) := dk_172 (dk_at dksX0_count_6 3 rfl rfl)
theorem dX0_count_161 : decode cX0_count 161 = .ok (.iconst 0, 1) := dk_3 (dk_at dksX0_count_6 4 rfl rfl)
theorem dX0_count_162 : decode cX0_count 162 = .ok (.istore_n 2, 1) := dk_61 (dk_at dksX0_count_6 5 rfl rfl)
theorem dX0_count_163 : decode cX0_count 163 = .ok (.aload_n 0, 1) := dk_42 (dk_at dksX0_count_6 6 rfl rfl)
theorem dX0_count_164 : decode cX0_count 164 = .ok (.getfield 19, 3) := dk_180 0 19 (dk_at dksX0_count_6 7 rfl rfl)
theorem dX0_count_167 : decode cX0_count 167 = .ok (.astore_n 3, 1) := dk_78 (dk_at dksX0_count_6 10 rfl rfl)
theorem dX0_count_168 : decode cX0_count 168 = .ok (.aload_n 3, 1) := dk_45 (dk_at dksX0_count_6 11 rfl rfl)
theorem dX0_count_169 : decode cX0_count 169 = .ok (.arraylength, 1) := dk_190 (dk_at dksX0_count_6 12 rfl rfl)
theorem dX0_count_170 : decode cX0_count 170 = .ok (.istore 4, 2) := dk_54 4 (dk_at dksX0_count_6 13 rfl rfl)
theorem dX0_count_172 : decode cX0_count 172 = .ok (.iconst 0, 1) := dk_3 (dk_at dksX0_count_6 15 rfl rfl)
theorem dX0_count_173 : decode cX0_count 173 = .ok (.istore 5, 2) := dk_54 5 (dk_at dksX0_count_6 16 rfl rfl)
theorem dX0_count_175 : decode cX0_count 175 = .ok (.iload 5, 2) := dk_21 5 (dk_at dksX0_count_6 18 rfl rfl)
theorem dX0_count_177 : decode cX0_count 177 = .ok (.iload 4, 2) := dk_21 4 (dk_at dksX0_count_6 20 rfl rfl)
theorem dX0_count_179 : decode cX0_count 179 = .ok (.if_icmp .ge 31, 3) := dk_162 0 31 (dk_at dksX0_count_7 0 rfl rfl)
theorem dX0_count_182 : decode cX0_count 182 = .ok (.aload_n 3, 1) := dk_45 (dk_at dksX0_count_7 3 rfl rfl)
theorem dX0_count_183 : decode cX0_count 183 = .ok (.iload 5, 2) := dk_21 5 (dk_at dksX0_count_7 4 rfl rfl)
theorem dX0_count_185 : decode cX0_count 185 = .ok (.aaload, 1) := dk_50 (dk_at dksX0_count_7 6 rfl rfl)
theorem dX0_count_186 : decode cX0_count 186 = .ok (.astore 6, 2) := dk_58 6 (dk_at dksX0_count_7 7 rfl rfl)
theorem dX0_count_188 : decode cX0_count 188 = .ok (.iload_n 2, 1) := dk_28 (dk_at dksX0_count_7 9 rfl rfl)
theorem dX0_count_189 : decode cX0_count 189 = .ok (.aload 6, 2) := dk_25 6 (dk_at dksX0_count_7 10 rfl rfl)
theorem dX0_count_191 : decode cX0_count 191 = .ok (.getfield 357, 3) := dk_180 1 101 (dk_at dksX0_count_7 12 rfl rfl)
theorem dX0_count_194 : decode cX0_count 194 = .ok (.ifnonnull 7, 3) := dk_199 0 7 (dk_at dksX0_count_7 15 rfl rfl)
theorem dX0_count_197 : decode cX0_count 197 = .ok (.iconst 0, 1) := dk_3 (dk_at dksX0_count_7 18 rfl rfl)
theorem dX0_count_198 : decode cX0_count 198 = .ok (.goto 4, 3) := dk_167 0 4 (dk_at dksX0_count_7 19 rfl rfl)
theorem dX0_count_201 : decode cX0_count 201 = .ok (.iconst 1, 1) := dk_4 (dk_at dksX0_count_7 22 rfl rfl)
theorem dX0_count_202 : decode cX0_count 202 = .ok (.iadd, 1) := dk_96 (dk_at dksX0_count_7 23 rfl rfl)
theorem dX0_count_203 : decode cX0_count 203 = .ok (.istore_n 2, 1) := dk_61 (dk_at dksX0_count_8 0 rfl rfl)
theorem dX0_count_204 : decode cX0_count 204 = .ok (.iinc 5 1, 3) := dk_132 5 1 (dk_at dksX0_count_8 1 rfl rfl)
theorem dX0_count_207 : decode cX0_count 207 = .ok (.goto (-32), 3) := dk_167 255 224 (dk_at dksX0_count_8 4 rfl rfl)
theorem dX0_count_210 : decode cX0_count 210 = .ok (.iload_n 2, 1) := dk_28 (dk_at dksX0_count_8 7 rfl rfl)
theorem dX0_count_211 : decode cX0_count 211 = .ok (.ireturn, 1) := dk_172 (dk_at dksX0_count_8 8 rfl rfl)
theorem dX0_count_212 : decode cX0_count 212 = .ok (.iconst (-1), 1) := dk_2 (dk_at dksX0_count_8 9 rfl rfl)
theorem dX0_count_213 : decode cX0_count 213 = .ok (.ireturn, 1) := dk_172 (dk_at dksX0_count_8 10 rfl rfl)
abbrev cX0_image : ByteArray := prog_1_method_111_code
def yX0_image : MethodName := ⟨RX0, "image", "(I)I"⟩
def dkwX0_image_1 : List UInt8 := [182, 1, 230, 83, 3, 172]
abbrev dktX0_image_1 : List UInt8 := dkwX0_image_1 ++ []
def dkwX0_image_0 : List UInt8 := [27, 133, 9, 20, 1, 228, 184, 0, 11, 154, 0, 6, 16, 254, 172, 42, 180, 0, 51, 27, 42, 180, 0, 47]
abbrev dktX0_image_0 : List UInt8 := dkwX0_image_0 ++ dktX0_image_1
theorem dksX0_image_0 : cX0_image.data.toList.drop 0 = dktX0_image_0 := by decide +kernel
theorem dksX0_image_1 : cX0_image.data.toList.drop 24 = dktX0_image_1 := dk_seg dksX0_image_0 24 rfl rfl
theorem dX0_image_0 : decode cX0_image 0 = .ok (.iload_n 1, 1) := dk_27 (dk_at dksX0_image_0 0 rfl rfl)
theorem dX0_image_1 : decode cX0_image 1 = .ok (.i2l, 1) := dk_133 (dk_at dksX0_image_0 1 rfl rfl)
theorem dX0_image_2 : decode cX0_image 2 = .ok (.lconst 0, 1) := dk_9 (dk_at dksX0_image_0 2 rfl rfl)
theorem dX0_image_3 : decode cX0_image 3 = .ok (.ldc2_w 484, 3) := dk_20 1 228 (dk_at dksX0_image_0 3 rfl rfl)
theorem dX0_image_6 : decode cX0_image 6 = .ok (.invokestatic 11, 3) := dk_184 0 11 (dk_at dksX0_image_0 6 rfl rfl)
theorem dX0_image_9 : decode cX0_image 9 = .ok (.ifCond .ne 6, 3) := dk_154 0 6 (dk_at dksX0_image_0 9 rfl rfl)
theorem dX0_image_12 : decode cX0_image 12 = .ok (.bipush (-2), 2) := dk_16 254 (dk_at dksX0_image_0 12 rfl rfl)
theorem dX0_image_14 : decode cX0_image 14 = .ok (.ireturn, 1) := dk_172 (dk_at dksX0_image_0 14 rfl rfl)
theorem dX0_image_15 : decode cX0_image 15 = .ok (.aload_n 0, 1) := dk_42 (dk_at dksX0_image_0 15 rfl rfl)
theorem dX0_image_16 : decode cX0_image 16 = .ok (.getfield 51, 3) := dk_180 0 51 (dk_at dksX0_image_0 16 rfl rfl)
theorem dX0_image_19 : decode cX0_image 19 = .ok (.iload_n 1, 1) := dk_27 (dk_at dksX0_image_0 19 rfl rfl)
theorem dX0_image_20 : decode cX0_image 20 = .ok (.aload_n 0, 1) := dk_42 (dk_at dksX0_image_0 20 rfl rfl)
theorem dX0_image_21 : decode cX0_image 21 = .ok (.getfield 47, 3) := dk_180 0 47 (dk_at dksX0_image_0 21 rfl rfl)
theorem dX0_image_24 : decode cX0_image 24 = .ok (.invokevirtual 486, 3) := dk_182 1 230 (dk_at dksX0_image_1 0 rfl rfl)
theorem dX0_image_27 : decode cX0_image 27 = .ok (.aastore, 1) := dk_83 (dk_at dksX0_image_1 3 rfl rfl)
theorem dX0_image_28 : decode cX0_image 28 = .ok (.iconst 0, 1) := dk_3 (dk_at dksX0_image_1 4 rfl rfl)
theorem dX0_image_29 : decode cX0_image 29 = .ok (.ireturn, 1) := dk_172 (dk_at dksX0_image_1 5 rfl rfl)
abbrev cX0_back : ByteArray := prog_1_method_112_code
def yX0_back : MethodName := ⟨RX0, "back", "(I)I"⟩
def dkwX0_back_1 : List UInt8 := [16, 250, 172, 42, 42, 180, 0, 51, 27, 50, 182, 1, 230, 181, 0, 47, 3, 172]
abbrev dktX0_back_1 : List UInt8 := dkwX0_back_1 ++ []
def dkwX0_back_0 : List UInt8 := [27, 133, 9, 20, 1, 228, 184, 0, 11, 154, 0, 6, 16, 254, 172, 42, 180, 0, 51, 27, 50, 199, 0, 6]
abbrev dktX0_back_0 : List UInt8 := dkwX0_back_0 ++ dktX0_back_1
theorem dksX0_back_0 : cX0_back.data.toList.drop 0 = dktX0_back_0 := by decide +kernel
theorem dksX0_back_1 : cX0_back.data.toList.drop 24 = dktX0_back_1 := dk_seg dksX0_back_0 24 rfl rfl
theorem dX0_back_0 : decode cX0_back 0 = .ok (.iload_n 1, 1) := dk_27 (dk_at dksX0_back_0 0 rfl rfl)
theorem dX0_back_1 : decode cX0_back 1 = .ok (.i2l, 1) := dk_133 (dk_at dksX0_back_0 1 rfl rfl)
theorem dX0_back_2 : decode cX0_back 2 = .ok (.lconst 0, 1) := dk_9 (dk_at dksX0_back_0 2 rfl rfl)
theorem dX0_back_3 : decode cX0_back 3 = .ok (.ldc2_w 484, 3) := dk_20 1 228 (dk_at dksX0_back_0 3 rfl rfl)
theorem dX0_back_6 : decode cX0_back 6 = .ok (.invokestatic 11, 3) := dk_184 0 11 (dk_at dksX0_back_0 6 rfl rfl)
theorem dX0_back_9 : decode cX0_back 9 = .ok (.ifCond .ne 6, 3) := dk_154 0 6 (dk_at dksX0_back_0 9 rfl rfl)
theorem dX0_back_12 : decode cX0_back 12 = .ok (.bipush (-2), 2) := dk_16 254 (dk_at dksX0_back_0 12 rfl rfl)
theorem dX0_back_14 : decode cX0_back 14 = .ok (.ireturn, 1) := dk_172 (dk_at dksX0_back_0 14 rfl rfl)
theorem dX0_back_15 : decode cX0_back 15 = .ok (.aload_n 0, 1) := dk_42 (dk_at dksX0_back_0 15 rfl rfl)
theorem dX0_back_16 : decode cX0_back 16 = .ok (.getfield 51, 3) := dk_180 0 51 (dk_at dksX0_back_0 16 rfl rfl)
theorem dX0_back_19 : decode cX0_back 19 = .ok (.iload_n 1, 1) := dk_27 (dk_at dksX0_back_0 19 rfl rfl)
theorem dX0_back_20 : decode cX0_back 20 = .ok (.aaload, 1) := dk_50 (dk_at dksX0_back_0 20 rfl rfl)
theorem dX0_back_21 : decode cX0_back 21 = .ok (.ifnonnull 6, 3) := dk_199 0 6 (dk_at dksX0_back_0 21 rfl rfl)
theorem dX0_back_24 : decode cX0_back 24 = .ok (.bipush (-6), 2) := dk_16 250 (dk_at dksX0_back_1 0 rfl rfl)
theorem dX0_back_26 : decode cX0_back 26 = .ok (.ireturn, 1) := dk_172 (dk_at dksX0_back_1 2 rfl rfl)
theorem dX0_back_27 : decode cX0_back 27 = .ok (.aload_n 0, 1) := dk_42 (dk_at dksX0_back_1 3 rfl rfl)
theorem dX0_back_28 : decode cX0_back 28 = .ok (.aload_n 0, 1) := dk_42 (dk_at dksX0_back_1 4 rfl rfl)
theorem dX0_back_29 : decode cX0_back 29 = .ok (.getfield 51, 3) := dk_180 0 51 (dk_at dksX0_back_1 5 rfl rfl)
theorem dX0_back_32 : decode cX0_back 32 = .ok (.iload_n 1, 1) := dk_27 (dk_at dksX0_back_1 8 rfl rfl)
theorem dX0_back_33 : decode cX0_back 33 = .ok (.aaload, 1) := dk_50 (dk_at dksX0_back_1 9 rfl rfl)
theorem dX0_back_34 : decode cX0_back 34 = .ok (.invokevirtual 486, 3) := dk_182 1 230 (dk_at dksX0_back_1 10 rfl rfl)
theorem dX0_back_37 : decode cX0_back 37 = .ok (.putfield 47, 3) := dk_181 0 47 (dk_at dksX0_back_1 13 rfl rfl)
theorem dX0_back_40 : decode cX0_back 40 = .ok (.iconst 0, 1) := dk_3 (dk_at dksX0_back_1 16 rfl rfl)
theorem dX0_back_41 : decode cX0_back 41 = .ok (.ireturn, 1) := dk_172 (dk_at dksX0_back_1 17 rfl rfl)
theorem q141 : (Jvm.Cond.initialized "WidowRoads") ∈ lw_all := lw_g (lw_at lw_m1 1 rfl) rfl
theorem q178 : (Jvm.Cond.instanceMethod ({ cls := "WidowRoads", name := "row", desc := "(III)I" } : Jvm.MethodName)) ∈ lw_all := lw_g (lw_at lw_m1 38 rfl) rfl
theorem q179 : (Jvm.Cond.selects "WidowRoads" ({ cls := "WidowRoads", name := "row", desc := "(III)I" } : Jvm.MethodName) ({ cls := "WidowRoads", name := "row", desc := "(III)I" } : Jvm.MethodName)) ∈ lw_all := lw_g (lw_at lw_m1 39 rfl) rfl
theorem q180 : (Jvm.Cond.code ({ cls := "WidowRoads", name := "row", desc := "(III)I" } : Jvm.MethodName) prog_1_method_5_code (4 : Nat) (Option.some Jvm.ClassFile.FieldType.int)) ∈ lw_all := lw_g (lw_at lw_m1 40 rfl) rfl
theorem q181 : (Jvm.Cond.methodLink "WidowRoads" (15 : Nat) ({ cls := "WidowRoads", name := "isSlot", desc := "(I)Z" } : Jvm.MethodName)) ∈ lw_all := lw_g (lw_at lw_m1 41 rfl) rfl
theorem q182 : (Jvm.Cond.static ({ cls := "WidowRoads", name := "isSlot", desc := "(I)Z" } : Jvm.MethodName)) ∈ lw_all := lw_g (lw_at lw_m1 42 rfl) rfl
theorem q183 : (Jvm.Cond.code ({ cls := "WidowRoads", name := "isSlot", desc := "(I)Z" } : Jvm.MethodName) prog_1_method_4_code (1 : Nat) (Option.some Jvm.ClassFile.FieldType.boolean)) ∈ lw_all := lw_g (lw_at lw_m1 43 rfl) rfl
theorem q184 : (Jvm.Cond.constantLong "WidowRoads" (9 : Nat) (3 : Int64)) ∈ lw_all := lw_g (lw_at lw_m1 44 rfl) rfl
theorem q185 : (Jvm.Cond.methodLink "WidowRoads" (11 : Nat) ({ cls := "WidowRoads", name := "in", desc := "(JJJ)Z" } : Jvm.MethodName)) ∈ lw_all := lw_g (lw_at lw_m1 45 rfl) rfl
theorem q186 : (Jvm.Cond.static ({ cls := "WidowRoads", name := "in", desc := "(JJJ)Z" } : Jvm.MethodName)) ∈ lw_all := lw_g (lw_at lw_m1 46 rfl) rfl
theorem q187 : (Jvm.Cond.code ({ cls := "WidowRoads", name := "in", desc := "(JJJ)Z" } : Jvm.MethodName) prog_1_method_1_code (6 : Nat) (Option.some Jvm.ClassFile.FieldType.boolean)) ∈ lw_all := lw_g (lw_at lw_m1 47 rfl) rfl
theorem q188 : (Jvm.Cond.methodLink "WidowRoads" (23 : Nat) ({ cls := "WidowRoads$Slot", name := "begins", desc := "(II)Z" } : Jvm.MethodName)) ∈ lw_all := lw_g (lw_at lw_m1 48 rfl) rfl
theorem q284 : (Jvm.Cond.instanceMethod ({ cls := "WidowRoads", name := "write", desc := "(IIJ)I" } : Jvm.MethodName)) ∈ lw_all := lw_g (lw_at lw_m1 144 rfl) rfl
theorem q285 : (Jvm.Cond.selects "WidowRoads" ({ cls := "WidowRoads", name := "write", desc := "(IIJ)I" } : Jvm.MethodName) ({ cls := "WidowRoads", name := "write", desc := "(IIJ)I" } : Jvm.MethodName)) ∈ lw_all := lw_g (lw_at lw_m1 145 rfl) rfl
theorem q286 : (Jvm.Cond.code ({ cls := "WidowRoads", name := "write", desc := "(IIJ)I" } : Jvm.MethodName) prog_1_method_6_code (5 : Nat) (Option.some Jvm.ClassFile.FieldType.int)) ∈ lw_all := lw_g (lw_at lw_m1 146 rfl) rfl
theorem q287 : (Jvm.Cond.methodLink "WidowRoads" (29 : Nat) ({ cls := "WidowRoads$Slot", name := "puts", desc := "(IJ)I" } : Jvm.MethodName)) ∈ lw_all := lw_g (lw_at lw_m1 147 rfl) rfl
theorem q363 : (Jvm.Cond.instanceMethod ({ cls := "WidowRoads", name := "paste", desc := "(IIIII)I" } : Jvm.MethodName)) ∈ lw_all := lw_g (lw_at lw_m1 223 rfl) rfl
theorem q364 : (Jvm.Cond.selects "WidowRoads" ({ cls := "WidowRoads", name := "paste", desc := "(IIIII)I" } : Jvm.MethodName) ({ cls := "WidowRoads", name := "paste", desc := "(IIIII)I" } : Jvm.MethodName)) ∈ lw_all := lw_g (lw_at lw_m1 224 rfl) rfl
theorem q365 : (Jvm.Cond.code ({ cls := "WidowRoads", name := "paste", desc := "(IIIII)I" } : Jvm.MethodName) prog_1_method_7_code (6 : Nat) (Option.some Jvm.ClassFile.FieldType.int)) ∈ lw_all := lw_g (lw_at lw_m1 225 rfl) rfl
theorem q366 : (Jvm.Cond.methodLink "WidowRoads" (33 : Nat) ({ cls := "WidowRoads$Slot", name := "pastes", desc := "(ILWidowRoads$Slot;II)I" } : Jvm.MethodName)) ∈ lw_all := lw_g (lw_at lw_m1 226 rfl) rfl
theorem q379 : (Jvm.Cond.instantiable "WidowRoads" (10 : Nat)) ∈ lw_all := lw_g (lw_at lw_m1 239 rfl) rfl
theorem q381 : (Jvm.Cond.instanceMethod ({ cls := "WidowRoads", name := "<init>", desc := "()V" } : Jvm.MethodName)) ∈ lw_all := lw_g (lw_at lw_m2 1 rfl) rfl
theorem q382 : (Jvm.Cond.code ({ cls := "WidowRoads", name := "<init>", desc := "()V" } : Jvm.MethodName) prog_1_method_8_code (1 : Nat) (Option.none : Option Jvm.ClassFile.FieldType)) ∈ lw_all := lw_g (lw_at lw_m2 2 rfl) rfl
theorem q383 : (Jvm.Cond.methodLink "WidowRoads" (37 : Nat) ({ cls := "java/lang/Object", name := "<init>", desc := "()V" } : Jvm.MethodName)) ∈ lw_all := lw_g (lw_at lw_m2 3 rfl) rfl
theorem q384 : (Jvm.Cond.classLink "WidowRoads" (24 : Nat) "WidowRoads$Slot") ∈ lw_all := lw_g (lw_at lw_m2 4 rfl) rfl
theorem q386 : (Jvm.Cond.methodLinkNest "WidowRoads" (43 : Nat) ({ cls := "WidowRoads$Slot", name := "<init>", desc := "()V" } : Jvm.MethodName) "WidowRoads") ∈ lw_tbl := lw_at lw_m2 6 rfl
theorem q391 : (Jvm.Cond.fieldLinkNest "WidowRoads" (357 : Nat) "WidowRoads$Slot" "held" "Ljava/lang/Object;" "WidowRoads") ∈ lw_tbl := lw_at lw_m2 11 rfl
theorem q395 : (Jvm.Cond.classLink "WidowRoads" (44 : Nat) "WidowRoads$Colony") ∈ lw_all := lw_g (lw_at lw_m2 15 rfl) rfl
theorem q397 : (Jvm.Cond.methodLinkNest "WidowRoads" (46 : Nat) ({ cls := "WidowRoads$Colony", name := "<init>", desc := "()V" } : Jvm.MethodName) "WidowRoads") ∈ lw_tbl := lw_at lw_m2 17 rfl
theorem q439 : (Jvm.Cond.fieldLinkNest "WidowRoads" (155 : Nat) "WidowRoads$Colony" "creeks" "Ljava/util/List;" "WidowRoads") ∈ lw_tbl := lw_at lw_m2 59 rfl
theorem q443 : (Jvm.Cond.fieldLinkNest "WidowRoads" (135 : Nat) "WidowRoads$Colony" "houses" "Ljava/util/List;" "WidowRoads") ∈ lw_tbl := lw_at lw_m2 63 rfl
theorem q446 : (Jvm.Cond.fieldLinkNest "WidowRoads" (116 : Nat) "WidowRoads$Colony" "widows" "Ljava/util/List;" "WidowRoads") ∈ lw_tbl := lw_at lw_m2 66 rfl
theorem q449 : (Jvm.Cond.fieldLinkNest "WidowRoads" (174 : Nat) "WidowRoads$Colony" "acts" "Ljava/util/List;" "WidowRoads") ∈ lw_tbl := lw_at lw_m2 69 rfl
theorem q453 : (Jvm.Cond.fieldLinkNest "WidowRoads" (142 : Nat) "WidowRoads$Colony" "years" "I" "WidowRoads") ∈ lw_tbl := lw_at lw_m2 73 rfl
theorem q457 : (Jvm.Cond.fieldLinkNest "WidowRoads" (483 : Nat) "WidowRoads$Colony" "law" "I" "WidowRoads") ∈ lw_tbl := lw_at lw_m2 77 rfl
theorem q460 : (Jvm.Cond.fieldLinkNest "WidowRoads" (437 : Nat) "WidowRoads$Colony" "odds" "I" "WidowRoads") ∈ lw_tbl := lw_at lw_m2 80 rfl
theorem q464 : (Jvm.Cond.fieldLinkNest "WidowRoads" (147 : Nat) "WidowRoads$Colony" "wide" "I" "WidowRoads") ∈ lw_tbl := lw_at lw_m2 84 rfl
theorem q468 : (Jvm.Cond.fieldLinkNest "WidowRoads" (150 : Nat) "WidowRoads$Colony" "high" "I" "WidowRoads") ∈ lw_tbl := lw_at lw_m2 88 rfl
theorem q470 : (Jvm.Cond.fieldLinkNest "WidowRoads" (105 : Nat) "WidowRoads$Colony" "lines" "I" "WidowRoads") ∈ lw_tbl := lw_at lw_m2 90 rfl
theorem q494 : (Jvm.Cond.classLink "WidowRoads" (63 : Nat) "WidowRoads$Walks") ∈ lw_all := lw_g (lw_at lw_m2 114 rfl) rfl
theorem q496 : (Jvm.Cond.methodLinkNest "WidowRoads" (65 : Nat) ({ cls := "WidowRoads$Walks", name := "<init>", desc := "(LWidowRoads;)V" } : Jvm.MethodName) "WidowRoads") ∈ lw_tbl := lw_at lw_m2 116 rfl
theorem q502 : (Jvm.Cond.fieldLinkNest "WidowRoads" (202 : Nat) "WidowRoads$Walks" "steps" "[I" "WidowRoads") ∈ lw_tbl := lw_at lw_m2 122 rfl
theorem q504 : (Jvm.Cond.fieldLinkNest "WidowRoads" (245 : Nat) "WidowRoads$Walks" "stands" "[I" "WidowRoads") ∈ lw_tbl := lw_at lw_m2 124 rfl
theorem q506 : (Jvm.Cond.fieldLinkNest "WidowRoads" (330 : Nat) "WidowRoads$Walks" "moves" "[I" "WidowRoads") ∈ lw_tbl := lw_at lw_m2 126 rfl
theorem q508 : (Jvm.Cond.fieldLinkNest "WidowRoads" (325 : Nat) "WidowRoads$Walks" "houses" "[I" "WidowRoads") ∈ lw_tbl := lw_at lw_m2 128 rfl
theorem q510 : (Jvm.Cond.fieldLinkNest "WidowRoads" (327 : Nat) "WidowRoads$Walks" "moved" "[I" "WidowRoads") ∈ lw_tbl := lw_at lw_m2 130 rfl
theorem q514 : (Jvm.Cond.fieldLinkNest "WidowRoads" (383 : Nat) "WidowRoads$Walks" "sole" "[I" "WidowRoads") ∈ lw_tbl := lw_at lw_m2 134 rfl
theorem q516 : (Jvm.Cond.fieldLinkNest "WidowRoads" (275 : Nat) "WidowRoads$Walks" "road" "[J" "WidowRoads") ∈ lw_tbl := lw_at lw_m2 136 rfl
theorem q520 : (Jvm.Cond.fieldLinkNest "WidowRoads" (248 : Nat) "WidowRoads$Walks" "been" "[J" "WidowRoads") ∈ lw_tbl := lw_at lw_m2 140 rfl
theorem q522 : (Jvm.Cond.fieldLinkNest "WidowRoads" (354 : Nat) "WidowRoads$Walks" "creeks" "J" "WidowRoads") ∈ lw_tbl := lw_at lw_m2 142 rfl
theorem q527 : (Jvm.Cond.fieldLinkNest "WidowRoads" (390 : Nat) "WidowRoads$Walks" "law" "I" "WidowRoads") ∈ lw_tbl := lw_at lw_m2 147 rfl
theorem q529 : (Jvm.Cond.fieldLinkNest "WidowRoads" (348 : Nat) "WidowRoads$Walks" "stay" "I" "WidowRoads") ∈ lw_tbl := lw_at lw_m2 149 rfl
theorem q570 : (Jvm.Cond.classLink "WidowRoads" (72 : Nat) "WidowRoads$Way") ∈ lw_all := lw_g (lw_at lw_m2 190 rfl) rfl
theorem q572 : (Jvm.Cond.methodLinkNest "WidowRoads" (74 : Nat) ({ cls := "WidowRoads$Way", name := "<init>", desc := "(LWidowRoads;)V" } : Jvm.MethodName) "WidowRoads") ∈ lw_tbl := lw_at lw_m2 192 rfl
theorem q577 : (Jvm.Cond.fieldLinkNest "WidowRoads" (263 : Nat) "WidowRoads$Way" "far" "[I" "WidowRoads") ∈ lw_tbl := lw_at lw_m2 197 rfl
theorem q579 : (Jvm.Cond.fieldLinkNest "WidowRoads" (301 : Nat) "WidowRoads$Way" "queue" "[I" "WidowRoads") ∈ lw_tbl := lw_at lw_m2 199 rfl
theorem q581 : (Jvm.Cond.fieldLinkNest "WidowRoads" (300 : Nat) "WidowRoads$Way" "many" "I" "WidowRoads") ∈ lw_tbl := lw_at lw_m2 201 rfl
theorem q592 : (Jvm.Cond.classLink "WidowRoads" (79 : Nat) "WidowRoads$Faced") ∈ lw_all := lw_g (lw_at lw_m2 212 rfl) rfl
theorem q594 : (Jvm.Cond.methodLinkNest "WidowRoads" (81 : Nat) ({ cls := "WidowRoads$Faced", name := "<init>", desc := "(LWidowRoads;)V" } : Jvm.MethodName) "WidowRoads") ∈ lw_tbl := lw_at lw_m2 214 rfl
theorem q600 : (Jvm.Cond.fieldLinkNest "WidowRoads" (374 : Nat) "WidowRoads$Faced" "bits" "I" "WidowRoads") ∈ lw_tbl := lw_at lw_m2 220 rfl
theorem q602 : (Jvm.Cond.fieldLinkNest "WidowRoads" (377 : Nat) "WidowRoads$Faced" "best" "I" "WidowRoads") ∈ lw_tbl := lw_at lw_m2 222 rfl
theorem q604 : (Jvm.Cond.fieldLinkNest "WidowRoads" (380 : Nat) "WidowRoads$Faced" "leaves" "I" "WidowRoads") ∈ lw_tbl := lw_at lw_m2 224 rfl
theorem q617 : (Jvm.Cond.fieldLink "WidowRoads" (19 : Nat) "WidowRoads" "slots" "[LWidowRoads$Slot;") ∈ lw_all := lw_g (lw_at lw_m2 237 rfl) rfl
theorem q619 : (Jvm.Cond.fieldLink "WidowRoads" (47 : Nat) "WidowRoads" "now" "LWidowRoads$Colony;") ∈ lw_all := lw_g (lw_at lw_m2 239 rfl) rfl
theorem q620 : (Jvm.Cond.fieldLink "WidowRoads" (51 : Nat) "WidowRoads" "images" "[LWidowRoads$Colony;") ∈ lw_all := lw_g (lw_at lw_m3 0 rfl) rfl
theorem q621 : (Jvm.Cond.fieldLink "WidowRoads" (55 : Nat) "WidowRoads" "tape" "[B") ∈ lw_all := lw_g (lw_at lw_m3 1 rfl) rfl
theorem q622 : (Jvm.Cond.fieldLink "WidowRoads" (86 : Nat) "WidowRoads" "taped" "I") ∈ lw_all := lw_g (lw_at lw_m3 2 rfl) rfl
theorem q623 : (Jvm.Cond.fieldLink "WidowRoads" (102 : Nat) "WidowRoads" "faultKind" "I") ∈ lw_all := lw_g (lw_at lw_m3 3 rfl) rfl
theorem q624 : (Jvm.Cond.fieldLink "WidowRoads" (59 : Nat) "WidowRoads" "faultPlace" "I") ∈ lw_all := lw_g (lw_at lw_m3 4 rfl) rfl
theorem q627 : (Jvm.Cond.fieldLink "WidowRoads" (68 : Nat) "WidowRoads" "walks" "LWidowRoads$Walks;") ∈ lw_all := lw_g (lw_at lw_m3 7 rfl) rfl
theorem q628 : (Jvm.Cond.fieldLink "WidowRoads" (75 : Nat) "WidowRoads" "way" "LWidowRoads$Way;") ∈ lw_all := lw_g (lw_at lw_m3 8 rfl) rfl
theorem q629 : (Jvm.Cond.fieldLink "WidowRoads" (82 : Nat) "WidowRoads" "faced" "LWidowRoads$Faced;") ∈ lw_all := lw_g (lw_at lw_m3 9 rfl) rfl
theorem q630 : (Jvm.Cond.laysFinal "WidowRoads" "WidowRoads" "slots" "[LWidowRoads$Slot;") ∈ lw_all := lw_g (lw_at lw_m3 10 rfl) rfl
theorem q631 : (Jvm.Cond.soleField "WidowRoads" "slots") ∈ lw_all := lw_g (lw_at lw_m3 11 rfl) rfl
theorem q632 : (Jvm.Cond.lays "WidowRoads" "WidowRoads" "now" "LWidowRoads$Colony;") ∈ lw_all := lw_g (lw_at lw_m3 12 rfl) rfl
theorem q633 : (Jvm.Cond.soleField "WidowRoads" "now") ∈ lw_all := lw_g (lw_at lw_m3 13 rfl) rfl
theorem q634 : (Jvm.Cond.laysFinal "WidowRoads" "WidowRoads" "images" "[LWidowRoads$Colony;") ∈ lw_all := lw_g (lw_at lw_m3 14 rfl) rfl
theorem q635 : (Jvm.Cond.soleField "WidowRoads" "images") ∈ lw_all := lw_g (lw_at lw_m3 15 rfl) rfl
theorem q636 : (Jvm.Cond.laysFinal "WidowRoads" "WidowRoads" "tape" "[B") ∈ lw_all := lw_g (lw_at lw_m3 16 rfl) rfl
theorem q637 : (Jvm.Cond.soleField "WidowRoads" "tape") ∈ lw_all := lw_g (lw_at lw_m3 17 rfl) rfl
theorem q638 : (Jvm.Cond.lays "WidowRoads" "WidowRoads" "taped" "I") ∈ lw_all := lw_g (lw_at lw_m3 18 rfl) rfl
theorem q639 : (Jvm.Cond.soleField "WidowRoads" "taped") ∈ lw_all := lw_g (lw_at lw_m3 19 rfl) rfl
theorem q640 : (Jvm.Cond.lays "WidowRoads" "WidowRoads" "faultKind" "I") ∈ lw_all := lw_g (lw_at lw_m3 20 rfl) rfl
theorem q641 : (Jvm.Cond.soleField "WidowRoads" "faultKind") ∈ lw_all := lw_g (lw_at lw_m3 21 rfl) rfl
theorem q642 : (Jvm.Cond.lays "WidowRoads" "WidowRoads" "faultPlace" "I") ∈ lw_all := lw_g (lw_at lw_m3 22 rfl) rfl
theorem q643 : (Jvm.Cond.soleField "WidowRoads" "faultPlace") ∈ lw_all := lw_g (lw_at lw_m3 23 rfl) rfl
theorem q644 : (Jvm.Cond.laysFinal "WidowRoads" "WidowRoads" "walks" "LWidowRoads$Walks;") ∈ lw_all := lw_g (lw_at lw_m3 24 rfl) rfl
theorem q645 : (Jvm.Cond.soleField "WidowRoads" "walks") ∈ lw_all := lw_g (lw_at lw_m3 25 rfl) rfl
theorem q646 : (Jvm.Cond.laysFinal "WidowRoads" "WidowRoads" "way" "LWidowRoads$Way;") ∈ lw_all := lw_g (lw_at lw_m3 26 rfl) rfl
theorem q647 : (Jvm.Cond.soleField "WidowRoads" "way") ∈ lw_all := lw_g (lw_at lw_m3 27 rfl) rfl
theorem q648 : (Jvm.Cond.laysFinal "WidowRoads" "WidowRoads" "faced" "LWidowRoads$Faced;") ∈ lw_all := lw_g (lw_at lw_m3 28 rfl) rfl
theorem q649 : (Jvm.Cond.soleField "WidowRoads" "faced") ∈ lw_all := lw_g (lw_at lw_m3 29 rfl) rfl
theorem q650 : (Jvm.Cond.superclass "WidowRoads" "java/lang/Object") ∈ lw_all := lw_g (lw_at lw_m3 30 rfl) rfl
theorem q652 : (Jvm.Cond.instanceMethod ({ cls := "WidowRoads", name := "feed", desc := "(IIIII)I" } : Jvm.MethodName)) ∈ lw_all := lw_g (lw_at lw_m3 32 rfl) rfl
theorem q653 : (Jvm.Cond.selects "WidowRoads" ({ cls := "WidowRoads", name := "feed", desc := "(IIIII)I" } : Jvm.MethodName) ({ cls := "WidowRoads", name := "feed", desc := "(IIIII)I" } : Jvm.MethodName)) ∈ lw_all := lw_g (lw_at lw_m3 33 rfl) rfl
theorem q654 : (Jvm.Cond.code ({ cls := "WidowRoads", name := "feed", desc := "(IIIII)I" } : Jvm.MethodName) prog_1_method_9_code (8 : Nat) (Option.some Jvm.ClassFile.FieldType.int)) ∈ lw_all := lw_g (lw_at lw_m3 34 rfl) rfl
theorem q656 : (Jvm.Cond.instanceMethod ({ cls := "WidowRoads", name := "end", desc := "(I)I" } : Jvm.MethodName)) ∈ lw_all := lw_g (lw_at lw_m3 36 rfl) rfl
theorem q657 : (Jvm.Cond.selects "WidowRoads" ({ cls := "WidowRoads", name := "end", desc := "(I)I" } : Jvm.MethodName) ({ cls := "WidowRoads", name := "end", desc := "(I)I" } : Jvm.MethodName)) ∈ lw_all := lw_g (lw_at lw_m3 37 rfl) rfl
theorem q658 : (Jvm.Cond.code ({ cls := "WidowRoads", name := "end", desc := "(I)I" } : Jvm.MethodName) prog_1_method_10_code (2 : Nat) (Option.some Jvm.ClassFile.FieldType.int)) ∈ lw_all := lw_g (lw_at lw_m3 38 rfl) rfl
theorem q660 : (Jvm.Cond.instanceMethod ({ cls := "WidowRoads", name := "colony", desc := "()I" } : Jvm.MethodName)) ∈ lw_all := lw_g (lw_at lw_m3 40 rfl) rfl
theorem q661 : (Jvm.Cond.selects "WidowRoads" ({ cls := "WidowRoads", name := "colony", desc := "()I" } : Jvm.MethodName) ({ cls := "WidowRoads", name := "colony", desc := "()I" } : Jvm.MethodName)) ∈ lw_all := lw_g (lw_at lw_m3 41 rfl) rfl
theorem q662 : (Jvm.Cond.codeWith ({ cls := "WidowRoads", name := "colony", desc := "()I" } : Jvm.MethodName) prog_1_method_11_code (4 : Nat) (Option.some Jvm.ClassFile.FieldType.int) [((0 : Nat), (59 : Nat), (66 : Nat), (108 : Nat)), ((0 : Nat), (59 : Nat), (93 : Nat), (0 : Nat)), ((66 : Nat), (86 : Nat), (93 : Nat), (0 : Nat))]) ∈ lw_all := lw_g (lw_at lw_m3 42 rfl) rfl
theorem q663 : (Jvm.Cond.classLink "WidowRoads" (108 : Nat) "WidowRoads$Fault") ∈ lw_all := lw_g (lw_at lw_m3 43 rfl) rfl
theorem q664 : (Jvm.Cond.classLink "WidowRoads" (89 : Nat) "WidowRoads$Reader") ∈ lw_all := lw_g (lw_at lw_m3 44 rfl) rfl
theorem q666 : (Jvm.Cond.methodLink "WidowRoads" (91 : Nat) ({ cls := "WidowRoads$Reader", name := "<init>", desc := "([BI)V" } : Jvm.MethodName)) ∈ lw_all := lw_g (lw_at lw_m3 46 rfl) rfl
theorem q707 : (Jvm.Cond.methodLink "WidowRoads" (94 : Nat) ({ cls := "WidowRoads$Reader", name := "reads", desc := "()LWidowRoads$Colony;" } : Jvm.MethodName)) ∈ lw_all := lw_g (lw_at lw_m3 87 rfl) rfl
theorem q798 : (Jvm.Cond.fieldLinkNest "WidowRoads" (110 : Nat) "WidowRoads$Fault" "kind" "I" "WidowRoads") ∈ lw_tbl := lw_at lw_m3 178 rfl
theorem q800 : (Jvm.Cond.fieldLinkNest "WidowRoads" (113 : Nat) "WidowRoads$Fault" "place" "I" "WidowRoads") ∈ lw_tbl := lw_at lw_m3 180 rfl
theorem q884 : (Jvm.Cond.selects "WidowRoads" ({ cls := "java/lang/Object", name := "equals", desc := "(Ljava/lang/Object;)Z" } : Jvm.MethodName) ({ cls := "java/lang/Object", name := "equals", desc := "(Ljava/lang/Object;)Z" } : Jvm.MethodName)) ∈ lw_all := lw_g (lw_at lw_m4 24 rfl) rfl
theorem q951 : (Jvm.Cond.selects "WidowRoads" ({ cls := "java/lang/Object", name := "getClass", desc := "()Ljava/lang/Class;" } : Jvm.MethodName) ({ cls := "java/lang/Object", name := "getClass", desc := "()Ljava/lang/Class;" } : Jvm.MethodName)) ∈ lw_all := lw_g (lw_at lw_m4 91 rfl) rfl
theorem q1004 : (Jvm.Cond.fieldLinkNest "WidowRoads" (223 : Nat) "WidowRoads$Widow" "spot" "I" "WidowRoads") ∈ lw_tbl := lw_at lw_m4 144 rfl
theorem q1007 : (Jvm.Cond.fieldLinkNest "WidowRoads" (229 : Nat) "WidowRoads$Widow" "faces" "I" "WidowRoads") ∈ lw_tbl := lw_at lw_m4 147 rfl
theorem q1010 : (Jvm.Cond.fieldLinkNest "WidowRoads" (199 : Nat) "WidowRoads$Widow" "year" "I" "WidowRoads") ∈ lw_tbl := lw_at lw_m4 150 rfl
theorem q1013 : (Jvm.Cond.fieldLinkNest "WidowRoads" (234 : Nat) "WidowRoads$Widow" "many" "I" "WidowRoads") ∈ lw_tbl := lw_at lw_m4 153 rfl
theorem q1016 : (Jvm.Cond.fieldLinkNest "WidowRoads" (236 : Nat) "WidowRoads$Widow" "grief" "[I" "WidowRoads") ∈ lw_tbl := lw_at lw_m4 156 rfl
theorem q1019 : (Jvm.Cond.fieldLinkNest "WidowRoads" (232 : Nat) "WidowRoads$Widow" "steps" "I" "WidowRoads") ∈ lw_tbl := lw_at lw_m4 159 rfl
theorem q1033 : (Jvm.Cond.methodLink "WidowRoads" (98 : Nat) ({ cls := "WidowRoads$Colony", name := "is", desc := "()Z" } : Jvm.MethodName)) ∈ lw_all := lw_g (lw_at lw_m4 173 rfl) rfl
theorem q1038 : (Jvm.Cond.instanceMethod ({ cls := "WidowRoads", name := "fault", desc := "(I)I" } : Jvm.MethodName)) ∈ lw_all := lw_g (lw_at lw_m4 178 rfl) rfl
theorem q1039 : (Jvm.Cond.selects "WidowRoads" ({ cls := "WidowRoads", name := "fault", desc := "(I)I" } : Jvm.MethodName) ({ cls := "WidowRoads", name := "fault", desc := "(I)I" } : Jvm.MethodName)) ∈ lw_all := lw_g (lw_at lw_m4 179 rfl) rfl
theorem q1040 : (Jvm.Cond.code ({ cls := "WidowRoads", name := "fault", desc := "(I)I" } : Jvm.MethodName) prog_1_method_12_code (2 : Nat) (Option.some Jvm.ClassFile.FieldType.int)) ∈ lw_all := lw_g (lw_at lw_m4 180 rfl) rfl
theorem q1042 : (Jvm.Cond.instanceMethod ({ cls := "WidowRoads", name := "evening", desc := "(I)I" } : Jvm.MethodName)) ∈ lw_all := lw_g (lw_at lw_m4 182 rfl) rfl
theorem q1043 : (Jvm.Cond.selects "WidowRoads" ({ cls := "WidowRoads", name := "evening", desc := "(I)I" } : Jvm.MethodName) ({ cls := "WidowRoads", name := "evening", desc := "(I)I" } : Jvm.MethodName)) ∈ lw_all := lw_g (lw_at lw_m4 183 rfl) rfl
theorem q1044 : (Jvm.Cond.code ({ cls := "WidowRoads", name := "evening", desc := "(I)I" } : Jvm.MethodName) prog_1_method_29_code (4 : Nat) (Option.some Jvm.ClassFile.FieldType.int)) ∈ lw_all := lw_g (lw_at lw_m4 184 rfl) rfl
theorem q1045 : (Jvm.Cond.methodLink "WidowRoads" (194 : Nat) ({ cls := "WidowRoads", name := "is", desc := "()LWidowRoads$Walks;" } : Jvm.MethodName)) ∈ lw_all := lw_g (lw_at lw_m4 185 rfl) rfl
theorem q1046 : (Jvm.Cond.privateMethod ({ cls := "WidowRoads", name := "is", desc := "()LWidowRoads$Walks;" } : Jvm.MethodName)) ∈ lw_tbl := lw_at lw_m4 186 rfl
theorem q1047 : (Jvm.Cond.instanceMethod ({ cls := "WidowRoads", name := "is", desc := "()LWidowRoads$Walks;" } : Jvm.MethodName)) ∈ lw_all := lw_g (lw_at lw_m4 187 rfl) rfl
theorem q1048 : (Jvm.Cond.code ({ cls := "WidowRoads", name := "is", desc := "()LWidowRoads$Walks;" } : Jvm.MethodName) prog_1_method_28_code (1 : Nat) (Option.some (Jvm.ClassFile.FieldType.object "WidowRoads$Walks"))) ∈ lw_all := lw_g (lw_at lw_m4 188 rfl) rfl
theorem q1049 : (Jvm.Cond.methodLink "WidowRoads" (188 : Nat) ({ cls := "WidowRoads$Walks", name := "is", desc := "()LWidowRoads$Walks;" } : Jvm.MethodName)) ∈ lw_all := lw_g (lw_at lw_m4 189 rfl) rfl
theorem q1054 : (Jvm.Cond.privateMethod ({ cls := "WidowRoads", name := "creeksNow", desc := "()J" } : Jvm.MethodName)) ∈ lw_tbl := lw_at lw_m4 194 rfl
theorem q1055 : (Jvm.Cond.instanceMethod ({ cls := "WidowRoads", name := "creeksNow", desc := "()J" } : Jvm.MethodName)) ∈ lw_all := lw_g (lw_at lw_m4 195 rfl) rfl
theorem q1056 : (Jvm.Cond.code ({ cls := "WidowRoads", name := "creeksNow", desc := "()J" } : Jvm.MethodName) prog_1_method_27_code (5 : Nat) (Option.some Jvm.ClassFile.FieldType.long)) ∈ lw_all := lw_g (lw_at lw_m4 196 rfl) rfl
theorem q1057 : (Jvm.Cond.interfaceEntry "WidowRoads" (158 : Nat)) ∈ lw_tbl := lw_at lw_m4 197 rfl
theorem q1058 : (Jvm.Cond.methodLink "WidowRoads" (158 : Nat) ({ cls := "java/util/List", name := "iterator", desc := "()Ljava/util/Iterator;" } : Jvm.MethodName)) ∈ lw_all := lw_g (lw_at lw_m4 198 rfl) rfl
theorem q1085 : (Jvm.Cond.interfaceEntry "WidowRoads" (162 : Nat)) ∈ lw_tbl := lw_at lw_m4 225 rfl
theorem q1086 : (Jvm.Cond.methodLink "WidowRoads" (162 : Nat) ({ cls := "java/util/Iterator", name := "hasNext", desc := "()Z" } : Jvm.MethodName)) ∈ lw_all := lw_g (lw_at lw_m4 226 rfl) rfl
theorem q1095 : (Jvm.Cond.interfaceEntry "WidowRoads" (167 : Nat)) ∈ lw_tbl := lw_at lw_m4 235 rfl
theorem q1096 : (Jvm.Cond.methodLink "WidowRoads" (167 : Nat) ({ cls := "java/util/Iterator", name := "next", desc := "()Ljava/lang/Object;" } : Jvm.MethodName)) ∈ lw_all := lw_g (lw_at lw_m4 236 rfl) rfl
theorem q1108 : (Jvm.Cond.classLink "WidowRoads" (2 : Nat) "java/lang/Integer") ∈ lw_all := lw_g (lw_at lw_m5 8 rfl) rfl
theorem q1109 : (Jvm.Cond.methodLink "WidowRoads" (171 : Nat) ({ cls := "java/lang/Integer", name := "intValue", desc := "()I" } : Jvm.MethodName)) ∈ lw_all := lw_g (lw_at lw_m5 9 rfl) rfl
theorem q1110 : (Jvm.Cond.classLink "WidowRoads" (177 : Nat) "WidowRoads$Deed") ∈ lw_all := lw_g (lw_at lw_m5 10 rfl) rfl
theorem q1111 : (Jvm.Cond.constantLong "WidowRoads" (186 : Nat) (-1 : Int64)) ∈ lw_all := lw_g (lw_at lw_m5 11 rfl) rfl
theorem q1120 : (Jvm.Cond.privateMethod ({ cls := "WidowRoads", name := "many", desc := "()I" } : Jvm.MethodName)) ∈ lw_tbl := lw_at lw_m5 20 rfl
theorem q1121 : (Jvm.Cond.instanceMethod ({ cls := "WidowRoads", name := "many", desc := "()I" } : Jvm.MethodName)) ∈ lw_all := lw_g (lw_at lw_m5 21 rfl) rfl
theorem q1122 : (Jvm.Cond.code ({ cls := "WidowRoads", name := "many", desc := "()I" } : Jvm.MethodName) prog_1_method_13_code (1 : Nat) (Option.some Jvm.ClassFile.FieldType.int)) ∈ lw_all := lw_g (lw_at lw_m5 22 rfl) rfl
theorem q1123 : (Jvm.Cond.interfaceEntry "WidowRoads" (120 : Nat)) ∈ lw_tbl := lw_at lw_m5 23 rfl
theorem q1124 : (Jvm.Cond.methodLink "WidowRoads" (120 : Nat) ({ cls := "java/util/List", name := "size", desc := "()I" } : Jvm.MethodName)) ∈ lw_all := lw_g (lw_at lw_m5 24 rfl) rfl
theorem q1126 : (Jvm.Cond.privateMethod ({ cls := "WidowRoads", name := "widowOf", desc := "(I)LWidowRoads$Widow;" } : Jvm.MethodName)) ∈ lw_tbl := lw_at lw_m5 26 rfl
theorem q1127 : (Jvm.Cond.instanceMethod ({ cls := "WidowRoads", name := "widowOf", desc := "(I)LWidowRoads$Widow;" } : Jvm.MethodName)) ∈ lw_all := lw_g (lw_at lw_m5 27 rfl) rfl
theorem q1128 : (Jvm.Cond.code ({ cls := "WidowRoads", name := "widowOf", desc := "(I)LWidowRoads$Widow;" } : Jvm.MethodName) prog_1_method_15_code (2 : Nat) (Option.some (Jvm.ClassFile.FieldType.object "WidowRoads$Widow"))) ∈ lw_all := lw_g (lw_at lw_m5 28 rfl) rfl
theorem q1129 : (Jvm.Cond.interfaceEntry "WidowRoads" (129 : Nat)) ∈ lw_tbl := lw_at lw_m5 29 rfl
theorem q1130 : (Jvm.Cond.methodLink "WidowRoads" (129 : Nat) ({ cls := "java/util/List", name := "get", desc := "(I)Ljava/lang/Object;" } : Jvm.MethodName)) ∈ lw_all := lw_g (lw_at lw_m5 30 rfl) rfl
theorem q1146 : (Jvm.Cond.classLink "WidowRoads" (133 : Nat) "WidowRoads$Widow") ∈ lw_all := lw_g (lw_at lw_m5 46 rfl) rfl
theorem q1147 : (Jvm.Cond.methodLink "WidowRoads" (191 : Nat) ({ cls := "WidowRoads$Walks", name := "goes", desc := "()LWidowRoads$Walks;" } : Jvm.MethodName)) ∈ lw_all := lw_g (lw_at lw_m5 47 rfl) rfl
theorem q1165 : (Jvm.Cond.static ({ cls := "WidowRoads", name := "isOn", desc := "(II)Z" } : Jvm.MethodName)) ∈ lw_all := lw_g (lw_at lw_m5 65 rfl) rfl
theorem q1166 : (Jvm.Cond.code ({ cls := "WidowRoads", name := "isOn", desc := "(II)Z" } : Jvm.MethodName) prog_1_method_2_code (2 : Nat) (Option.some Jvm.ClassFile.FieldType.boolean)) ∈ lw_all := lw_g (lw_at lw_m5 66 rfl) rfl
theorem q1176 : (Jvm.Cond.privateMethod ({ cls := "WidowRoads", name := "beside", desc := "(II)I" } : Jvm.MethodName)) ∈ lw_tbl := lw_at lw_m5 76 rfl
theorem q1177 : (Jvm.Cond.instanceMethod ({ cls := "WidowRoads", name := "beside", desc := "(II)I" } : Jvm.MethodName)) ∈ lw_all := lw_g (lw_at lw_m5 77 rfl) rfl
theorem q1178 : (Jvm.Cond.code ({ cls := "WidowRoads", name := "beside", desc := "(II)I" } : Jvm.MethodName) prog_1_method_26_code (5 : Nat) (Option.some Jvm.ClassFile.FieldType.int)) ∈ lw_all := lw_g (lw_at lw_m5 78 rfl) rfl
theorem q1188 : (Jvm.Cond.static ({ cls := "WidowRoads", name := "isIn", desc := "(JI)Z" } : Jvm.MethodName)) ∈ lw_all := lw_g (lw_at lw_m5 88 rfl) rfl
theorem q1189 : (Jvm.Cond.code ({ cls := "WidowRoads", name := "isIn", desc := "(JI)Z" } : Jvm.MethodName) prog_1_method_23_code (3 : Nat) (Option.some Jvm.ClassFile.FieldType.boolean)) ∈ lw_all := lw_g (lw_at lw_m5 89 rfl) rfl
theorem q1199 : (Jvm.Cond.methodLink "WidowRoads" (126 : Nat) ({ cls := "WidowRoads", name := "many", desc := "()I" } : Jvm.MethodName)) ∈ lw_all := lw_g (lw_at lw_m5 99 rfl) rfl
theorem q1200 : (Jvm.Cond.methodLink "WidowRoads" (195 : Nat) ({ cls := "WidowRoads", name := "widowOf", desc := "(I)LWidowRoads$Widow;" } : Jvm.MethodName)) ∈ lw_all := lw_g (lw_at lw_m5 100 rfl) rfl
theorem q1202 : (Jvm.Cond.instanceMethod ({ cls := "WidowRoads", name := "creek", desc := "(I)I" } : Jvm.MethodName)) ∈ lw_all := lw_g (lw_at lw_m5 102 rfl) rfl
theorem q1203 : (Jvm.Cond.selects "WidowRoads" ({ cls := "WidowRoads", name := "creek", desc := "(I)I" } : Jvm.MethodName) ({ cls := "WidowRoads", name := "creek", desc := "(I)I" } : Jvm.MethodName)) ∈ lw_all := lw_g (lw_at lw_m5 103 rfl) rfl
theorem q1204 : (Jvm.Cond.code ({ cls := "WidowRoads", name := "creek", desc := "(I)I" } : Jvm.MethodName) prog_1_method_30_code (2 : Nat) (Option.some Jvm.ClassFile.FieldType.int)) ∈ lw_all := lw_g (lw_at lw_m5 104 rfl) rfl
theorem q1205 : (Jvm.Cond.methodLink "WidowRoads" (206 : Nat) ({ cls := "WidowRoads", name := "isCell", desc := "(J)Z" } : Jvm.MethodName)) ∈ lw_all := lw_g (lw_at lw_m5 105 rfl) rfl
theorem q1206 : (Jvm.Cond.privateMethod ({ cls := "WidowRoads", name := "isCell", desc := "(J)Z" } : Jvm.MethodName)) ∈ lw_tbl := lw_at lw_m5 106 rfl
theorem q1207 : (Jvm.Cond.instanceMethod ({ cls := "WidowRoads", name := "isCell", desc := "(J)Z" } : Jvm.MethodName)) ∈ lw_all := lw_g (lw_at lw_m5 107 rfl) rfl
theorem q1208 : (Jvm.Cond.code ({ cls := "WidowRoads", name := "isCell", desc := "(J)Z" } : Jvm.MethodName) prog_1_method_20_code (3 : Nat) (Option.some Jvm.ClassFile.FieldType.boolean)) ∈ lw_all := lw_g (lw_at lw_m5 108 rfl) rfl
theorem q1209 : (Jvm.Cond.constantLong "WidowRoads" (145 : Nat) (10 : Int64)) ∈ lw_all := lw_g (lw_at lw_m5 109 rfl) rfl
theorem q1210 : (Jvm.Cond.methodLink "WidowRoads" (209 : Nat) ({ cls := "WidowRoads", name := "creeksNow", desc := "()J" } : Jvm.MethodName)) ∈ lw_all := lw_g (lw_at lw_m5 110 rfl) rfl
theorem q1211 : (Jvm.Cond.methodLink "WidowRoads" (213 : Nat) ({ cls := "WidowRoads", name := "spotOf", desc := "(J)I" } : Jvm.MethodName)) ∈ lw_all := lw_g (lw_at lw_m5 111 rfl) rfl
theorem q1212 : (Jvm.Cond.static ({ cls := "WidowRoads", name := "spotOf", desc := "(J)I" } : Jvm.MethodName)) ∈ lw_all := lw_g (lw_at lw_m5 112 rfl) rfl
theorem q1213 : (Jvm.Cond.code ({ cls := "WidowRoads", name := "spotOf", desc := "(J)I" } : Jvm.MethodName) prog_1_method_24_code (2 : Nat) (Option.some Jvm.ClassFile.FieldType.int)) ∈ lw_all := lw_g (lw_at lw_m5 113 rfl) rfl
theorem q1214 : (Jvm.Cond.constantLong "WidowRoads" (153 : Nat) (8 : Int64)) ∈ lw_all := lw_g (lw_at lw_m5 114 rfl) rfl
theorem q1215 : (Jvm.Cond.methodLink "WidowRoads" (217 : Nat) ({ cls := "WidowRoads", name := "isIn", desc := "(JI)Z" } : Jvm.MethodName)) ∈ lw_all := lw_g (lw_at lw_m5 115 rfl) rfl
theorem q1217 : (Jvm.Cond.instanceMethod ({ cls := "WidowRoads", name := "widow", desc := "(II)I" } : Jvm.MethodName)) ∈ lw_all := lw_g (lw_at lw_m5 117 rfl) rfl
theorem q1218 : (Jvm.Cond.selects "WidowRoads" ({ cls := "WidowRoads", name := "widow", desc := "(II)I" } : Jvm.MethodName) ({ cls := "WidowRoads", name := "widow", desc := "(II)I" } : Jvm.MethodName)) ∈ lw_all := lw_g (lw_at lw_m5 118 rfl) rfl
theorem q1219 : (Jvm.Cond.code ({ cls := "WidowRoads", name := "widow", desc := "(II)I" } : Jvm.MethodName) prog_1_method_31_code (4 : Nat) (Option.some Jvm.ClassFile.FieldType.int)) ∈ lw_all := lw_g (lw_at lw_m5 119 rfl) rfl
theorem q1220 : (Jvm.Cond.methodLink "WidowRoads" (138 : Nat) ({ cls := "WidowRoads", name := "isWidow", desc := "(J)Z" } : Jvm.MethodName)) ∈ lw_all := lw_g (lw_at lw_m5 120 rfl) rfl
theorem q1221 : (Jvm.Cond.privateMethod ({ cls := "WidowRoads", name := "isWidow", desc := "(J)Z" } : Jvm.MethodName)) ∈ lw_tbl := lw_at lw_m5 121 rfl
theorem q1222 : (Jvm.Cond.instanceMethod ({ cls := "WidowRoads", name := "isWidow", desc := "(J)Z" } : Jvm.MethodName)) ∈ lw_all := lw_g (lw_at lw_m5 122 rfl) rfl
theorem q1223 : (Jvm.Cond.code ({ cls := "WidowRoads", name := "isWidow", desc := "(J)Z" } : Jvm.MethodName) prog_1_method_16_code (3 : Nat) (Option.some Jvm.ClassFile.FieldType.boolean)) ∈ lw_all := lw_g (lw_at lw_m5 123 rfl) rfl
theorem q1224 : (Jvm.Cond.constantLong "WidowRoads" (221 : Nat) (4 : Int64)) ∈ lw_all := lw_g (lw_at lw_m5 124 rfl) rfl
theorem q1225 : (Jvm.Cond.methodLink "WidowRoads" (226 : Nat) ({ cls := "WidowRoads", name := "cellOf", desc := "(I)I" } : Jvm.MethodName)) ∈ lw_all := lw_g (lw_at lw_m5 125 rfl) rfl
theorem q1226 : (Jvm.Cond.static ({ cls := "WidowRoads", name := "cellOf", desc := "(I)I" } : Jvm.MethodName)) ∈ lw_all := lw_g (lw_at lw_m5 126 rfl) rfl
theorem q1227 : (Jvm.Cond.code ({ cls := "WidowRoads", name := "cellOf", desc := "(I)I" } : Jvm.MethodName) prog_1_method_25_code (1 : Nat) (Option.some Jvm.ClassFile.FieldType.int)) ∈ lw_all := lw_g (lw_at lw_m5 127 rfl) rfl
theorem q1229 : (Jvm.Cond.instanceMethod ({ cls := "WidowRoads", name := "grief", desc := "(II)I" } : Jvm.MethodName)) ∈ lw_all := lw_g (lw_at lw_m5 129 rfl) rfl
theorem q1230 : (Jvm.Cond.selects "WidowRoads" ({ cls := "WidowRoads", name := "grief", desc := "(II)I" } : Jvm.MethodName) ({ cls := "WidowRoads", name := "grief", desc := "(II)I" } : Jvm.MethodName)) ∈ lw_all := lw_g (lw_at lw_m5 130 rfl) rfl
theorem q1231 : (Jvm.Cond.code ({ cls := "WidowRoads", name := "grief", desc := "(II)I" } : Jvm.MethodName) prog_1_method_32_code (3 : Nat) (Option.some Jvm.ClassFile.FieldType.int)) ∈ lw_all := lw_g (lw_at lw_m5 131 rfl) rfl
theorem q1233 : (Jvm.Cond.instanceMethod ({ cls := "WidowRoads", name := "at", desc := "(II)I" } : Jvm.MethodName)) ∈ lw_all := lw_g (lw_at lw_m5 133 rfl) rfl
theorem q1234 : (Jvm.Cond.selects "WidowRoads" ({ cls := "WidowRoads", name := "at", desc := "(II)I" } : Jvm.MethodName) ({ cls := "WidowRoads", name := "at", desc := "(II)I" } : Jvm.MethodName)) ∈ lw_all := lw_g (lw_at lw_m5 134 rfl) rfl
theorem q1235 : (Jvm.Cond.code ({ cls := "WidowRoads", name := "at", desc := "(II)I" } : Jvm.MethodName) prog_1_method_33_code (3 : Nat) (Option.some Jvm.ClassFile.FieldType.int)) ∈ lw_all := lw_g (lw_at lw_m5 135 rfl) rfl
theorem q1236 : (Jvm.Cond.constantLong "WidowRoads" (239 : Nat) (40 : Int64)) ∈ lw_all := lw_g (lw_at lw_m5 136 rfl) rfl
theorem q1237 : (Jvm.Cond.methodLink "WidowRoads" (241 : Nat) ({ cls := "WidowRoads$Walks", name := "at", desc := "(II)I" } : Jvm.MethodName)) ∈ lw_all := lw_g (lw_at lw_m5 137 rfl) rfl
theorem q1242 : (Jvm.Cond.instanceMethod ({ cls := "WidowRoads", name := "steps", desc := "(I)I" } : Jvm.MethodName)) ∈ lw_all := lw_g (lw_at lw_m5 142 rfl) rfl
theorem q1243 : (Jvm.Cond.selects "WidowRoads" ({ cls := "WidowRoads", name := "steps", desc := "(I)I" } : Jvm.MethodName) ({ cls := "WidowRoads", name := "steps", desc := "(I)I" } : Jvm.MethodName)) ∈ lw_all := lw_g (lw_at lw_m5 143 rfl) rfl
theorem q1244 : (Jvm.Cond.code ({ cls := "WidowRoads", name := "steps", desc := "(I)I" } : Jvm.MethodName) prog_1_method_34_code (2 : Nat) (Option.some Jvm.ClassFile.FieldType.int)) ∈ lw_all := lw_g (lw_at lw_m5 144 rfl) rfl
theorem q1246 : (Jvm.Cond.instanceMethod ({ cls := "WidowRoads", name := "stands", desc := "(I)I" } : Jvm.MethodName)) ∈ lw_all := lw_g (lw_at lw_m5 146 rfl) rfl
theorem q1247 : (Jvm.Cond.selects "WidowRoads" ({ cls := "WidowRoads", name := "stands", desc := "(I)I" } : Jvm.MethodName) ({ cls := "WidowRoads", name := "stands", desc := "(I)I" } : Jvm.MethodName)) ∈ lw_all := lw_g (lw_at lw_m5 147 rfl) rfl
theorem q1248 : (Jvm.Cond.code ({ cls := "WidowRoads", name := "stands", desc := "(I)I" } : Jvm.MethodName) prog_1_method_35_code (2 : Nat) (Option.some Jvm.ClassFile.FieldType.int)) ∈ lw_all := lw_g (lw_at lw_m5 148 rfl) rfl
theorem q1250 : (Jvm.Cond.instanceMethod ({ cls := "WidowRoads", name := "ground", desc := "(I)I" } : Jvm.MethodName)) ∈ lw_all := lw_g (lw_at lw_m5 150 rfl) rfl
theorem q1251 : (Jvm.Cond.selects "WidowRoads" ({ cls := "WidowRoads", name := "ground", desc := "(I)I" } : Jvm.MethodName) ({ cls := "WidowRoads", name := "ground", desc := "(I)I" } : Jvm.MethodName)) ∈ lw_all := lw_g (lw_at lw_m5 151 rfl) rfl
theorem q1252 : (Jvm.Cond.code ({ cls := "WidowRoads", name := "ground", desc := "(I)I" } : Jvm.MethodName) prog_1_method_36_code (2 : Nat) (Option.some Jvm.ClassFile.FieldType.int)) ∈ lw_all := lw_g (lw_at lw_m5 152 rfl) rfl
theorem q1253 : (Jvm.Cond.methodLink "WidowRoads" (252 : Nat) ({ cls := "java/lang/Long", name := "bitCount", desc := "(J)I" } : Jvm.MethodName)) ∈ lw_all := lw_g (lw_at lw_m5 153 rfl) rfl
theorem q1260 : (Jvm.Cond.instanceMethod ({ cls := "WidowRoads", name := "loop", desc := "(I)I" } : Jvm.MethodName)) ∈ lw_all := lw_g (lw_at lw_m5 160 rfl) rfl
theorem q1261 : (Jvm.Cond.selects "WidowRoads" ({ cls := "WidowRoads", name := "loop", desc := "(I)I" } : Jvm.MethodName) ({ cls := "WidowRoads", name := "loop", desc := "(I)I" } : Jvm.MethodName)) ∈ lw_all := lw_g (lw_at lw_m5 161 rfl) rfl
theorem q1262 : (Jvm.Cond.code ({ cls := "WidowRoads", name := "loop", desc := "(I)I" } : Jvm.MethodName) prog_1_method_37_code (3 : Nat) (Option.some Jvm.ClassFile.FieldType.int)) ∈ lw_all := lw_g (lw_at lw_m5 162 rfl) rfl
theorem q1264 : (Jvm.Cond.instanceMethod ({ cls := "WidowRoads", name := "haunt", desc := "(I)I" } : Jvm.MethodName)) ∈ lw_all := lw_g (lw_at lw_m5 164 rfl) rfl
theorem q1265 : (Jvm.Cond.selects "WidowRoads" ({ cls := "WidowRoads", name := "haunt", desc := "(I)I" } : Jvm.MethodName) ({ cls := "WidowRoads", name := "haunt", desc := "(I)I" } : Jvm.MethodName)) ∈ lw_all := lw_g (lw_at lw_m5 165 rfl) rfl
theorem q1266 : (Jvm.Cond.code ({ cls := "WidowRoads", name := "haunt", desc := "(I)I" } : Jvm.MethodName) prog_1_method_39_code (4 : Nat) (Option.some Jvm.ClassFile.FieldType.int)) ∈ lw_all := lw_g (lw_at lw_m5 166 rfl) rfl
theorem q1267 : (Jvm.Cond.methodLink "WidowRoads" (256 : Nat) ({ cls := "WidowRoads", name := "visitsOf", desc := "(II)I" } : Jvm.MethodName)) ∈ lw_all := lw_g (lw_at lw_m5 167 rfl) rfl
theorem q1268 : (Jvm.Cond.privateMethod ({ cls := "WidowRoads", name := "visitsOf", desc := "(II)I" } : Jvm.MethodName)) ∈ lw_tbl := lw_at lw_m5 168 rfl
theorem q1269 : (Jvm.Cond.instanceMethod ({ cls := "WidowRoads", name := "visitsOf", desc := "(II)I" } : Jvm.MethodName)) ∈ lw_all := lw_g (lw_at lw_m5 169 rfl) rfl
theorem q1270 : (Jvm.Cond.code ({ cls := "WidowRoads", name := "visitsOf", desc := "(II)I" } : Jvm.MethodName) prog_1_method_38_code (5 : Nat) (Option.some Jvm.ClassFile.FieldType.int)) ∈ lw_all := lw_g (lw_at lw_m5 170 rfl) rfl
theorem q1272 : (Jvm.Cond.instanceMethod ({ cls := "WidowRoads", name := "visits", desc := "(II)I" } : Jvm.MethodName)) ∈ lw_all := lw_g (lw_at lw_m5 172 rfl) rfl
theorem q1273 : (Jvm.Cond.selects "WidowRoads" ({ cls := "WidowRoads", name := "visits", desc := "(II)I" } : Jvm.MethodName) ({ cls := "WidowRoads", name := "visits", desc := "(II)I" } : Jvm.MethodName)) ∈ lw_all := lw_g (lw_at lw_m5 173 rfl) rfl
theorem q1274 : (Jvm.Cond.code ({ cls := "WidowRoads", name := "visits", desc := "(II)I" } : Jvm.MethodName) prog_1_method_40_code (3 : Nat) (Option.some Jvm.ClassFile.FieldType.int)) ∈ lw_all := lw_g (lw_at lw_m5 174 rfl) rfl
theorem q1276 : (Jvm.Cond.instanceMethod ({ cls := "WidowRoads", name := "straight", desc := "(I)I" } : Jvm.MethodName)) ∈ lw_all := lw_g (lw_at lw_m5 176 rfl) rfl
theorem q1277 : (Jvm.Cond.selects "WidowRoads" ({ cls := "WidowRoads", name := "straight", desc := "(I)I" } : Jvm.MethodName) ({ cls := "WidowRoads", name := "straight", desc := "(I)I" } : Jvm.MethodName)) ∈ lw_all := lw_g (lw_at lw_m5 177 rfl) rfl
theorem q1278 : (Jvm.Cond.code ({ cls := "WidowRoads", name := "straight", desc := "(I)I" } : Jvm.MethodName) prog_1_method_42_code (3 : Nat) (Option.some Jvm.ClassFile.FieldType.int)) ∈ lw_all := lw_g (lw_at lw_m5 178 rfl) rfl
theorem q1279 : (Jvm.Cond.methodLink "WidowRoads" (266 : Nat) ({ cls := "WidowRoads", name := "straightOf", desc := "(II)I" } : Jvm.MethodName)) ∈ lw_all := lw_g (lw_at lw_m5 179 rfl) rfl
theorem q1280 : (Jvm.Cond.privateMethod ({ cls := "WidowRoads", name := "straightOf", desc := "(II)I" } : Jvm.MethodName)) ∈ lw_tbl := lw_at lw_m5 180 rfl
theorem q1281 : (Jvm.Cond.instanceMethod ({ cls := "WidowRoads", name := "straightOf", desc := "(II)I" } : Jvm.MethodName)) ∈ lw_all := lw_g (lw_at lw_m5 181 rfl) rfl
theorem q1282 : (Jvm.Cond.code ({ cls := "WidowRoads", name := "straightOf", desc := "(II)I" } : Jvm.MethodName) prog_1_method_41_code (5 : Nat) (Option.some Jvm.ClassFile.FieldType.int)) ∈ lw_all := lw_g (lw_at lw_m5 182 rfl) rfl
theorem q1283 : (Jvm.Cond.methodLink "WidowRoads" (259 : Nat) ({ cls := "WidowRoads$Way", name := "over", desc := "(IJ)LWidowRoads$Way;" } : Jvm.MethodName)) ∈ lw_all := lw_g (lw_at lw_m5 183 rfl) rfl
theorem q1299 : (Jvm.Cond.instanceMethod ({ cls := "WidowRoads", name := "beeline", desc := "(II)I" } : Jvm.MethodName)) ∈ lw_all := lw_g (lw_at lw_m5 199 rfl) rfl
theorem q1300 : (Jvm.Cond.selects "WidowRoads" ({ cls := "WidowRoads", name := "beeline", desc := "(II)I" } : Jvm.MethodName) ({ cls := "WidowRoads", name := "beeline", desc := "(II)I" } : Jvm.MethodName)) ∈ lw_all := lw_g (lw_at lw_m5 200 rfl) rfl
theorem q1301 : (Jvm.Cond.code ({ cls := "WidowRoads", name := "beeline", desc := "(II)I" } : Jvm.MethodName) prog_1_method_43_code (3 : Nat) (Option.some Jvm.ClassFile.FieldType.int)) ∈ lw_all := lw_g (lw_at lw_m5 201 rfl) rfl
theorem q1303 : (Jvm.Cond.instanceMethod ({ cls := "WidowRoads", name := "road", desc := "(II)I" } : Jvm.MethodName)) ∈ lw_all := lw_g (lw_at lw_m5 203 rfl) rfl
theorem q1304 : (Jvm.Cond.selects "WidowRoads" ({ cls := "WidowRoads", name := "road", desc := "(II)I" } : Jvm.MethodName) ({ cls := "WidowRoads", name := "road", desc := "(II)I" } : Jvm.MethodName)) ∈ lw_all := lw_g (lw_at lw_m5 204 rfl) rfl
theorem q1305 : (Jvm.Cond.code ({ cls := "WidowRoads", name := "road", desc := "(II)I" } : Jvm.MethodName) prog_1_method_45_code (3 : Nat) (Option.some Jvm.ClassFile.FieldType.int)) ∈ lw_all := lw_g (lw_at lw_m5 205 rfl) rfl
theorem q1306 : (Jvm.Cond.methodLink "WidowRoads" (272 : Nat) ({ cls := "WidowRoads", name := "isThen", desc := "(II)Z" } : Jvm.MethodName)) ∈ lw_all := lw_g (lw_at lw_m5 206 rfl) rfl
theorem q1307 : (Jvm.Cond.privateMethod ({ cls := "WidowRoads", name := "isThen", desc := "(II)Z" } : Jvm.MethodName)) ∈ lw_tbl := lw_at lw_m5 207 rfl
theorem q1308 : (Jvm.Cond.instanceMethod ({ cls := "WidowRoads", name := "isThen", desc := "(II)Z" } : Jvm.MethodName)) ∈ lw_all := lw_g (lw_at lw_m5 208 rfl) rfl
theorem q1309 : (Jvm.Cond.code ({ cls := "WidowRoads", name := "isThen", desc := "(II)Z" } : Jvm.MethodName) prog_1_method_44_code (3 : Nat) (Option.some Jvm.ClassFile.FieldType.boolean)) ∈ lw_all := lw_g (lw_at lw_m5 209 rfl) rfl
theorem q1310 : (Jvm.Cond.methodLink "WidowRoads" (269 : Nat) ({ cls := "WidowRoads", name := "isYear", desc := "(I)Z" } : Jvm.MethodName)) ∈ lw_all := lw_g (lw_at lw_m5 210 rfl) rfl
theorem q1311 : (Jvm.Cond.privateMethod ({ cls := "WidowRoads", name := "isYear", desc := "(I)Z" } : Jvm.MethodName)) ∈ lw_tbl := lw_at lw_m5 211 rfl
theorem q1312 : (Jvm.Cond.instanceMethod ({ cls := "WidowRoads", name := "isYear", desc := "(I)Z" } : Jvm.MethodName)) ∈ lw_all := lw_g (lw_at lw_m5 212 rfl) rfl
theorem q1313 : (Jvm.Cond.code ({ cls := "WidowRoads", name := "isYear", desc := "(I)Z" } : Jvm.MethodName) prog_1_method_19_code (2 : Nat) (Option.some Jvm.ClassFile.FieldType.boolean)) ∈ lw_all := lw_g (lw_at lw_m5 213 rfl) rfl
theorem q1315 : (Jvm.Cond.instanceMethod ({ cls := "WidowRoads", name := "roads", desc := "(I)I" } : Jvm.MethodName)) ∈ lw_all := lw_g (lw_at lw_m5 215 rfl) rfl
theorem q1316 : (Jvm.Cond.selects "WidowRoads" ({ cls := "WidowRoads", name := "roads", desc := "(I)I" } : Jvm.MethodName) ({ cls := "WidowRoads", name := "roads", desc := "(I)I" } : Jvm.MethodName)) ∈ lw_all := lw_g (lw_at lw_m5 216 rfl) rfl
theorem q1317 : (Jvm.Cond.code ({ cls := "WidowRoads", name := "roads", desc := "(I)I" } : Jvm.MethodName) prog_1_method_46_code (2 : Nat) (Option.some Jvm.ClassFile.FieldType.int)) ∈ lw_all := lw_g (lw_at lw_m5 217 rfl) rfl
theorem q1319 : (Jvm.Cond.instanceMethod ({ cls := "WidowRoads", name := "pegs", desc := "(I)I" } : Jvm.MethodName)) ∈ lw_all := lw_g (lw_at lw_m5 219 rfl) rfl
theorem q1320 : (Jvm.Cond.selects "WidowRoads" ({ cls := "WidowRoads", name := "pegs", desc := "(I)I" } : Jvm.MethodName) ({ cls := "WidowRoads", name := "pegs", desc := "(I)I" } : Jvm.MethodName)) ∈ lw_all := lw_g (lw_at lw_m5 220 rfl) rfl
theorem q1321 : (Jvm.Cond.code ({ cls := "WidowRoads", name := "pegs", desc := "(I)I" } : Jvm.MethodName) prog_1_method_47_code (2 : Nat) (Option.some Jvm.ClassFile.FieldType.int)) ∈ lw_all := lw_g (lw_at lw_m5 221 rfl) rfl
theorem q1322 : (Jvm.Cond.methodLink "WidowRoads" (278 : Nat) ({ cls := "WidowRoads$Walks", name := "pegs", desc := "(I)I" } : Jvm.MethodName)) ∈ lw_all := lw_g (lw_at lw_m5 222 rfl) rfl
theorem q1328 : (Jvm.Cond.instanceMethod ({ cls := "WidowRoads", name := "joins", desc := "(II)I" } : Jvm.MethodName)) ∈ lw_all := lw_g (lw_at lw_m5 228 rfl) rfl
theorem q1329 : (Jvm.Cond.selects "WidowRoads" ({ cls := "WidowRoads", name := "joins", desc := "(II)I" } : Jvm.MethodName) ({ cls := "WidowRoads", name := "joins", desc := "(II)I" } : Jvm.MethodName)) ∈ lw_all := lw_g (lw_at lw_m5 229 rfl) rfl
theorem q1330 : (Jvm.Cond.code ({ cls := "WidowRoads", name := "joins", desc := "(II)I" } : Jvm.MethodName) prog_1_method_49_code (3 : Nat) (Option.some Jvm.ClassFile.FieldType.int)) ∈ lw_all := lw_g (lw_at lw_m5 230 rfl) rfl
theorem q1331 : (Jvm.Cond.methodLink "WidowRoads" (285 : Nat) ({ cls := "WidowRoads", name := "joinsOf", desc := "(II)I" } : Jvm.MethodName)) ∈ lw_all := lw_g (lw_at lw_m5 231 rfl) rfl
theorem q1332 : (Jvm.Cond.privateMethod ({ cls := "WidowRoads", name := "joinsOf", desc := "(II)I" } : Jvm.MethodName)) ∈ lw_tbl := lw_at lw_m5 232 rfl
theorem q1333 : (Jvm.Cond.instanceMethod ({ cls := "WidowRoads", name := "joinsOf", desc := "(II)I" } : Jvm.MethodName)) ∈ lw_all := lw_g (lw_at lw_m5 233 rfl) rfl
theorem q1334 : (Jvm.Cond.code ({ cls := "WidowRoads", name := "joinsOf", desc := "(II)I" } : Jvm.MethodName) prog_1_method_48_code (5 : Nat) (Option.some Jvm.ClassFile.FieldType.int)) ∈ lw_all := lw_g (lw_at lw_m5 234 rfl) rfl
theorem q1335 : (Jvm.Cond.methodLink "WidowRoads" (281 : Nat) ({ cls := "WidowRoads$Walks", name := "isPeg", desc := "(III)Z" } : Jvm.MethodName)) ∈ lw_all := lw_g (lw_at lw_m5 235 rfl) rfl
theorem q1340 : (Jvm.Cond.instanceMethod ({ cls := "WidowRoads", name := "corners", desc := "(II)I" } : Jvm.MethodName)) ∈ lw_all := lw_g (lw_at lw_m6 0 rfl) rfl
theorem q1341 : (Jvm.Cond.selects "WidowRoads" ({ cls := "WidowRoads", name := "corners", desc := "(II)I" } : Jvm.MethodName) ({ cls := "WidowRoads", name := "corners", desc := "(II)I" } : Jvm.MethodName)) ∈ lw_all := lw_g (lw_at lw_m6 1 rfl) rfl
theorem q1342 : (Jvm.Cond.code ({ cls := "WidowRoads", name := "corners", desc := "(II)I" } : Jvm.MethodName) prog_1_method_50_code (5 : Nat) (Option.some Jvm.ClassFile.FieldType.int)) ∈ lw_all := lw_g (lw_at lw_m6 2 rfl) rfl
theorem q1343 : (Jvm.Cond.methodLink "WidowRoads" (288 : Nat) ({ cls := "WidowRoads", name := "size", desc := "(I)I" } : Jvm.MethodName)) ∈ lw_all := lw_g (lw_at lw_m6 3 rfl) rfl
theorem q1344 : (Jvm.Cond.static ({ cls := "WidowRoads", name := "size", desc := "(I)I" } : Jvm.MethodName)) ∈ lw_all := lw_g (lw_at lw_m6 4 rfl) rfl
theorem q1345 : (Jvm.Cond.code ({ cls := "WidowRoads", name := "size", desc := "(I)I" } : Jvm.MethodName) prog_1_method_3_code (1 : Nat) (Option.some Jvm.ClassFile.FieldType.int)) ∈ lw_all := lw_g (lw_at lw_m6 5 rfl) rfl
theorem q1346 : (Jvm.Cond.methodLink "WidowRoads" (1 : Nat) ({ cls := "java/lang/Integer", name := "bitCount", desc := "(I)I" } : Jvm.MethodName)) ∈ lw_all := lw_g (lw_at lw_m6 6 rfl) rfl
theorem q1353 : (Jvm.Cond.instanceMethod ({ cls := "WidowRoads", name := "nets", desc := "(I)I" } : Jvm.MethodName)) ∈ lw_all := lw_g (lw_at lw_m6 13 rfl) rfl
theorem q1354 : (Jvm.Cond.selects "WidowRoads" ({ cls := "WidowRoads", name := "nets", desc := "(I)I" } : Jvm.MethodName) ({ cls := "WidowRoads", name := "nets", desc := "(I)I" } : Jvm.MethodName)) ∈ lw_all := lw_g (lw_at lw_m6 14 rfl) rfl
theorem q1355 : (Jvm.Cond.code ({ cls := "WidowRoads", name := "nets", desc := "(I)I" } : Jvm.MethodName) prog_1_method_52_code (2 : Nat) (Option.some Jvm.ClassFile.FieldType.int)) ∈ lw_all := lw_g (lw_at lw_m6 15 rfl) rfl
theorem q1356 : (Jvm.Cond.methodLink "WidowRoads" (304 : Nat) ({ cls := "WidowRoads", name := "partsOf", desc := "(IZ)I" } : Jvm.MethodName)) ∈ lw_all := lw_g (lw_at lw_m6 16 rfl) rfl
theorem q1357 : (Jvm.Cond.privateMethod ({ cls := "WidowRoads", name := "partsOf", desc := "(IZ)I" } : Jvm.MethodName)) ∈ lw_tbl := lw_at lw_m6 17 rfl
theorem q1358 : (Jvm.Cond.instanceMethod ({ cls := "WidowRoads", name := "partsOf", desc := "(IZ)I" } : Jvm.MethodName)) ∈ lw_all := lw_g (lw_at lw_m6 18 rfl) rfl
theorem q1359 : (Jvm.Cond.code ({ cls := "WidowRoads", name := "partsOf", desc := "(IZ)I" } : Jvm.MethodName) prog_1_method_51_code (8 : Nat) (Option.some Jvm.ClassFile.FieldType.int)) ∈ lw_all := lw_g (lw_at lw_m6 19 rfl) rfl
theorem q1360 : (Jvm.Cond.methodLink "WidowRoads" (290 : Nat) ({ cls := "java/lang/Long", name := "numberOfTrailingZeros", desc := "(J)I" } : Jvm.MethodName)) ∈ lw_all := lw_g (lw_at lw_m6 20 rfl) rfl
theorem q1367 : (Jvm.Cond.methodLink "WidowRoads" (293 : Nat) ({ cls := "WidowRoads$Way", name := "by", desc := "(II)LWidowRoads$Way;" } : Jvm.MethodName)) ∈ lw_all := lw_g (lw_at lw_m6 27 rfl) rfl
theorem q1380 : (Jvm.Cond.methodLink "WidowRoads" (297 : Nat) ({ cls := "WidowRoads$Way", name := "along", desc := "(IJ)LWidowRoads$Way;" } : Jvm.MethodName)) ∈ lw_all := lw_g (lw_at lw_m6 40 rfl) rfl
theorem q1385 : (Jvm.Cond.instanceMethod ({ cls := "WidowRoads", name := "missing", desc := "(I)I" } : Jvm.MethodName)) ∈ lw_all := lw_g (lw_at lw_m6 45 rfl) rfl
theorem q1386 : (Jvm.Cond.selects "WidowRoads" ({ cls := "WidowRoads", name := "missing", desc := "(I)I" } : Jvm.MethodName) ({ cls := "WidowRoads", name := "missing", desc := "(I)I" } : Jvm.MethodName)) ∈ lw_all := lw_g (lw_at lw_m6 46 rfl) rfl
theorem q1387 : (Jvm.Cond.code ({ cls := "WidowRoads", name := "missing", desc := "(I)I" } : Jvm.MethodName) prog_1_method_53_code (3 : Nat) (Option.some Jvm.ClassFile.FieldType.int)) ∈ lw_all := lw_g (lw_at lw_m6 47 rfl) rfl
theorem q1389 : (Jvm.Cond.instanceMethod ({ cls := "WidowRoads", name := "rings", desc := "(I)I" } : Jvm.MethodName)) ∈ lw_all := lw_g (lw_at lw_m6 49 rfl) rfl
theorem q1390 : (Jvm.Cond.selects "WidowRoads" ({ cls := "WidowRoads", name := "rings", desc := "(I)I" } : Jvm.MethodName) ({ cls := "WidowRoads", name := "rings", desc := "(I)I" } : Jvm.MethodName)) ∈ lw_all := lw_g (lw_at lw_m6 50 rfl) rfl
theorem q1391 : (Jvm.Cond.code ({ cls := "WidowRoads", name := "rings", desc := "(I)I" } : Jvm.MethodName) prog_1_method_54_code (2 : Nat) (Option.some Jvm.ClassFile.FieldType.int)) ∈ lw_all := lw_g (lw_at lw_m6 51 rfl) rfl
theorem q1393 : (Jvm.Cond.instanceMethod ({ cls := "WidowRoads", name := "bridges", desc := "(I)I" } : Jvm.MethodName)) ∈ lw_all := lw_g (lw_at lw_m6 53 rfl) rfl
theorem q1394 : (Jvm.Cond.selects "WidowRoads" ({ cls := "WidowRoads", name := "bridges", desc := "(I)I" } : Jvm.MethodName) ({ cls := "WidowRoads", name := "bridges", desc := "(I)I" } : Jvm.MethodName)) ∈ lw_all := lw_g (lw_at lw_m6 54 rfl) rfl
theorem q1395 : (Jvm.Cond.code ({ cls := "WidowRoads", name := "bridges", desc := "(I)I" } : Jvm.MethodName) prog_1_method_55_code (5 : Nat) (Option.some Jvm.ClassFile.FieldType.int)) ∈ lw_all := lw_g (lw_at lw_m6 55 rfl) rfl
theorem q1396 : (Jvm.Cond.methodLink "WidowRoads" (308 : Nat) ({ cls := "WidowRoads$Way", name := "by", desc := "(IIII)LWidowRoads$Way;" } : Jvm.MethodName)) ∈ lw_all := lw_g (lw_at lw_m6 56 rfl) rfl
theorem q1397 : (Jvm.Cond.methodLink "WidowRoads" (311 : Nat) ({ cls := "WidowRoads", name := "beside", desc := "(II)I" } : Jvm.MethodName)) ∈ lw_all := lw_g (lw_at lw_m6 57 rfl) rfl
theorem q1399 : (Jvm.Cond.instanceMethod ({ cls := "WidowRoads", name := "net", desc := "(II)I" } : Jvm.MethodName)) ∈ lw_all := lw_g (lw_at lw_m6 59 rfl) rfl
theorem q1400 : (Jvm.Cond.selects "WidowRoads" ({ cls := "WidowRoads", name := "net", desc := "(II)I" } : Jvm.MethodName) ({ cls := "WidowRoads", name := "net", desc := "(II)I" } : Jvm.MethodName)) ∈ lw_all := lw_g (lw_at lw_m6 60 rfl) rfl
theorem q1401 : (Jvm.Cond.code ({ cls := "WidowRoads", name := "net", desc := "(II)I" } : Jvm.MethodName) prog_1_method_56_code (3 : Nat) (Option.some Jvm.ClassFile.FieldType.int)) ∈ lw_all := lw_g (lw_at lw_m6 61 rfl) rfl
theorem q1403 : (Jvm.Cond.instanceMethod ({ cls := "WidowRoads", name := "way", desc := "(III)I" } : Jvm.MethodName)) ∈ lw_all := lw_g (lw_at lw_m6 63 rfl) rfl
theorem q1404 : (Jvm.Cond.selects "WidowRoads" ({ cls := "WidowRoads", name := "way", desc := "(III)I" } : Jvm.MethodName) ({ cls := "WidowRoads", name := "way", desc := "(III)I" } : Jvm.MethodName)) ∈ lw_all := lw_g (lw_at lw_m6 64 rfl) rfl
theorem q1405 : (Jvm.Cond.code ({ cls := "WidowRoads", name := "way", desc := "(III)I" } : Jvm.MethodName) prog_1_method_57_code (4 : Nat) (Option.some Jvm.ClassFile.FieldType.int)) ∈ lw_all := lw_g (lw_at lw_m6 65 rfl) rfl
theorem q1407 : (Jvm.Cond.instanceMethod ({ cls := "WidowRoads", name := "farthest", desc := "(II)I" } : Jvm.MethodName)) ∈ lw_all := lw_g (lw_at lw_m6 67 rfl) rfl
theorem q1408 : (Jvm.Cond.selects "WidowRoads" ({ cls := "WidowRoads", name := "farthest", desc := "(II)I" } : Jvm.MethodName) ({ cls := "WidowRoads", name := "farthest", desc := "(II)I" } : Jvm.MethodName)) ∈ lw_all := lw_g (lw_at lw_m6 68 rfl) rfl
theorem q1409 : (Jvm.Cond.code ({ cls := "WidowRoads", name := "farthest", desc := "(II)I" } : Jvm.MethodName) prog_1_method_58_code (5 : Nat) (Option.some Jvm.ClassFile.FieldType.int)) ∈ lw_all := lw_g (lw_at lw_m6 69 rfl) rfl
theorem q1411 : (Jvm.Cond.instanceMethod ({ cls := "WidowRoads", name := "crossing", desc := "()I" } : Jvm.MethodName)) ∈ lw_all := lw_g (lw_at lw_m6 71 rfl) rfl
theorem q1412 : (Jvm.Cond.selects "WidowRoads" ({ cls := "WidowRoads", name := "crossing", desc := "()I" } : Jvm.MethodName) ({ cls := "WidowRoads", name := "crossing", desc := "()I" } : Jvm.MethodName)) ∈ lw_all := lw_g (lw_at lw_m6 72 rfl) rfl
theorem q1413 : (Jvm.Cond.code ({ cls := "WidowRoads", name := "crossing", desc := "()I" } : Jvm.MethodName) prog_1_method_60_code (4 : Nat) (Option.some Jvm.ClassFile.FieldType.int)) ∈ lw_all := lw_g (lw_at lw_m6 73 rfl) rfl
theorem q1414 : (Jvm.Cond.methodLink "WidowRoads" (314 : Nat) ({ cls := "WidowRoads", name := "walkedOf", desc := "(I)I" } : Jvm.MethodName)) ∈ lw_all := lw_g (lw_at lw_m6 74 rfl) rfl
theorem q1415 : (Jvm.Cond.privateMethod ({ cls := "WidowRoads", name := "walkedOf", desc := "(I)I" } : Jvm.MethodName)) ∈ lw_tbl := lw_at lw_m6 75 rfl
theorem q1416 : (Jvm.Cond.instanceMethod ({ cls := "WidowRoads", name := "walkedOf", desc := "(I)I" } : Jvm.MethodName)) ∈ lw_all := lw_g (lw_at lw_m6 76 rfl) rfl
theorem q1417 : (Jvm.Cond.code ({ cls := "WidowRoads", name := "walkedOf", desc := "(I)I" } : Jvm.MethodName) prog_1_method_59_code (4 : Nat) (Option.some Jvm.ClassFile.FieldType.int)) ∈ lw_all := lw_g (lw_at lw_m6 77 rfl) rfl
theorem q1419 : (Jvm.Cond.instanceMethod ({ cls := "WidowRoads", name := "shared", desc := "(II)I" } : Jvm.MethodName)) ∈ lw_all := lw_g (lw_at lw_m6 79 rfl) rfl
theorem q1420 : (Jvm.Cond.selects "WidowRoads" ({ cls := "WidowRoads", name := "shared", desc := "(II)I" } : Jvm.MethodName) ({ cls := "WidowRoads", name := "shared", desc := "(II)I" } : Jvm.MethodName)) ∈ lw_all := lw_g (lw_at lw_m6 80 rfl) rfl
theorem q1421 : (Jvm.Cond.code ({ cls := "WidowRoads", name := "shared", desc := "(II)I" } : Jvm.MethodName) prog_1_method_61_code (3 : Nat) (Option.some Jvm.ClassFile.FieldType.int)) ∈ lw_all := lw_g (lw_at lw_m6 81 rfl) rfl
theorem q1423 : (Jvm.Cond.instanceMethod ({ cls := "WidowRoads", name := "walked", desc := "(I)I" } : Jvm.MethodName)) ∈ lw_all := lw_g (lw_at lw_m6 83 rfl) rfl
theorem q1424 : (Jvm.Cond.selects "WidowRoads" ({ cls := "WidowRoads", name := "walked", desc := "(I)I" } : Jvm.MethodName) ({ cls := "WidowRoads", name := "walked", desc := "(I)I" } : Jvm.MethodName)) ∈ lw_all := lw_g (lw_at lw_m6 84 rfl) rfl
theorem q1425 : (Jvm.Cond.code ({ cls := "WidowRoads", name := "walked", desc := "(I)I" } : Jvm.MethodName) prog_1_method_62_code (2 : Nat) (Option.some Jvm.ClassFile.FieldType.int)) ∈ lw_all := lw_g (lw_at lw_m6 85 rfl) rfl
theorem q1427 : (Jvm.Cond.instanceMethod ({ cls := "WidowRoads", name := "first", desc := "(I)I" } : Jvm.MethodName)) ∈ lw_all := lw_g (lw_at lw_m6 87 rfl) rfl
theorem q1428 : (Jvm.Cond.selects "WidowRoads" ({ cls := "WidowRoads", name := "first", desc := "(I)I" } : Jvm.MethodName) ({ cls := "WidowRoads", name := "first", desc := "(I)I" } : Jvm.MethodName)) ∈ lw_all := lw_g (lw_at lw_m6 88 rfl) rfl
theorem q1429 : (Jvm.Cond.code ({ cls := "WidowRoads", name := "first", desc := "(I)I" } : Jvm.MethodName) prog_1_method_63_code (3 : Nat) (Option.some Jvm.ClassFile.FieldType.int)) ∈ lw_all := lw_g (lw_at lw_m6 89 rfl) rfl
theorem q1431 : (Jvm.Cond.instanceMethod ({ cls := "WidowRoads", name := "line", desc := "(I)I" } : Jvm.MethodName)) ∈ lw_all := lw_g (lw_at lw_m6 91 rfl) rfl
theorem q1432 : (Jvm.Cond.selects "WidowRoads" ({ cls := "WidowRoads", name := "line", desc := "(I)I" } : Jvm.MethodName) ({ cls := "WidowRoads", name := "line", desc := "(I)I" } : Jvm.MethodName)) ∈ lw_all := lw_g (lw_at lw_m6 92 rfl) rfl
theorem q1433 : (Jvm.Cond.code ({ cls := "WidowRoads", name := "line", desc := "(I)I" } : Jvm.MethodName) prog_1_method_64_code (7 : Nat) (Option.some Jvm.ClassFile.FieldType.int)) ∈ lw_all := lw_g (lw_at lw_m6 93 rfl) rfl
theorem q1434 : (Jvm.Cond.methodLink "WidowRoads" (317 : Nat) ({ cls := "java/lang/Math", name := "max", desc := "(II)I" } : Jvm.MethodName)) ∈ lw_all := lw_g (lw_at lw_m6 94 rfl) rfl
theorem q1436 : (Jvm.Cond.instanceMethod ({ cls := "WidowRoads", name := "house", desc := "(II)I" } : Jvm.MethodName)) ∈ lw_all := lw_g (lw_at lw_m6 96 rfl) rfl
theorem q1437 : (Jvm.Cond.selects "WidowRoads" ({ cls := "WidowRoads", name := "house", desc := "(II)I" } : Jvm.MethodName) ({ cls := "WidowRoads", name := "house", desc := "(II)I" } : Jvm.MethodName)) ∈ lw_all := lw_g (lw_at lw_m6 97 rfl) rfl
theorem q1438 : (Jvm.Cond.code ({ cls := "WidowRoads", name := "house", desc := "(II)I" } : Jvm.MethodName) prog_1_method_65_code (3 : Nat) (Option.some Jvm.ClassFile.FieldType.int)) ∈ lw_all := lw_g (lw_at lw_m6 98 rfl) rfl
theorem q1439 : (Jvm.Cond.methodLink "WidowRoads" (322 : Nat) ({ cls := "WidowRoads", name := "isHouse", desc := "(I)Z" } : Jvm.MethodName)) ∈ lw_all := lw_g (lw_at lw_m6 99 rfl) rfl
theorem q1440 : (Jvm.Cond.privateMethod ({ cls := "WidowRoads", name := "isHouse", desc := "(I)Z" } : Jvm.MethodName)) ∈ lw_tbl := lw_at lw_m6 100 rfl
theorem q1441 : (Jvm.Cond.instanceMethod ({ cls := "WidowRoads", name := "isHouse", desc := "(I)Z" } : Jvm.MethodName)) ∈ lw_all := lw_g (lw_at lw_m6 101 rfl) rfl
theorem q1442 : (Jvm.Cond.code ({ cls := "WidowRoads", name := "isHouse", desc := "(I)Z" } : Jvm.MethodName) prog_1_method_17_code (2 : Nat) (Option.some Jvm.ClassFile.FieldType.boolean)) ∈ lw_all := lw_g (lw_at lw_m6 102 rfl) rfl
theorem q1444 : (Jvm.Cond.instanceMethod ({ cls := "WidowRoads", name := "moved", desc := "(I)I" } : Jvm.MethodName)) ∈ lw_all := lw_g (lw_at lw_m6 104 rfl) rfl
theorem q1445 : (Jvm.Cond.selects "WidowRoads" ({ cls := "WidowRoads", name := "moved", desc := "(I)I" } : Jvm.MethodName) ({ cls := "WidowRoads", name := "moved", desc := "(I)I" } : Jvm.MethodName)) ∈ lw_all := lw_g (lw_at lw_m6 105 rfl) rfl
theorem q1446 : (Jvm.Cond.code ({ cls := "WidowRoads", name := "moved", desc := "(I)I" } : Jvm.MethodName) prog_1_method_66_code (2 : Nat) (Option.some Jvm.ClassFile.FieldType.int)) ∈ lw_all := lw_g (lw_at lw_m6 106 rfl) rfl
theorem q1448 : (Jvm.Cond.instanceMethod ({ cls := "WidowRoads", name := "moves", desc := "(I)I" } : Jvm.MethodName)) ∈ lw_all := lw_g (lw_at lw_m6 108 rfl) rfl
theorem q1449 : (Jvm.Cond.selects "WidowRoads" ({ cls := "WidowRoads", name := "moves", desc := "(I)I" } : Jvm.MethodName) ({ cls := "WidowRoads", name := "moves", desc := "(I)I" } : Jvm.MethodName)) ∈ lw_all := lw_g (lw_at lw_m6 109 rfl) rfl
theorem q1450 : (Jvm.Cond.code ({ cls := "WidowRoads", name := "moves", desc := "(I)I" } : Jvm.MethodName) prog_1_method_67_code (2 : Nat) (Option.some Jvm.ClassFile.FieldType.int)) ∈ lw_all := lw_g (lw_at lw_m6 110 rfl) rfl
theorem q1452 : (Jvm.Cond.instanceMethod ({ cls := "WidowRoads", name := "served", desc := "(I)I" } : Jvm.MethodName)) ∈ lw_all := lw_g (lw_at lw_m6 112 rfl) rfl
theorem q1453 : (Jvm.Cond.selects "WidowRoads" ({ cls := "WidowRoads", name := "served", desc := "(I)I" } : Jvm.MethodName) ({ cls := "WidowRoads", name := "served", desc := "(I)I" } : Jvm.MethodName)) ∈ lw_all := lw_g (lw_at lw_m6 113 rfl) rfl
theorem q1454 : (Jvm.Cond.code ({ cls := "WidowRoads", name := "served", desc := "(I)I" } : Jvm.MethodName) prog_1_method_68_code (7 : Nat) (Option.some Jvm.ClassFile.FieldType.int)) ∈ lw_all := lw_g (lw_at lw_m6 114 rfl) rfl
theorem q1456 : (Jvm.Cond.instanceMethod ({ cls := "WidowRoads", name := "cover", desc := "()I" } : Jvm.MethodName)) ∈ lw_all := lw_g (lw_at lw_m6 116 rfl) rfl
theorem q1457 : (Jvm.Cond.selects "WidowRoads" ({ cls := "WidowRoads", name := "cover", desc := "()I" } : Jvm.MethodName) ({ cls := "WidowRoads", name := "cover", desc := "()I" } : Jvm.MethodName)) ∈ lw_all := lw_g (lw_at lw_m6 117 rfl) rfl
theorem q1458 : (Jvm.Cond.code ({ cls := "WidowRoads", name := "cover", desc := "()I" } : Jvm.MethodName) prog_1_method_71_code (1 : Nat) (Option.some Jvm.ClassFile.FieldType.int)) ∈ lw_all := lw_g (lw_at lw_m6 118 rfl) rfl
theorem q1459 : (Jvm.Cond.methodLink "WidowRoads" (343 : Nat) ({ cls := "WidowRoads", name := "coverOf", desc := "()I" } : Jvm.MethodName)) ∈ lw_all := lw_g (lw_at lw_m6 119 rfl) rfl
theorem q1460 : (Jvm.Cond.privateMethod ({ cls := "WidowRoads", name := "coverOf", desc := "()I" } : Jvm.MethodName)) ∈ lw_tbl := lw_at lw_m6 120 rfl
theorem q1461 : (Jvm.Cond.instanceMethod ({ cls := "WidowRoads", name := "coverOf", desc := "()I" } : Jvm.MethodName)) ∈ lw_all := lw_g (lw_at lw_m6 121 rfl) rfl
theorem q1462 : (Jvm.Cond.code ({ cls := "WidowRoads", name := "coverOf", desc := "()I" } : Jvm.MethodName) prog_1_method_70_code (3 : Nat) (Option.some Jvm.ClassFile.FieldType.int)) ∈ lw_all := lw_g (lw_at lw_m6 122 rfl) rfl
theorem q1463 : (Jvm.Cond.methodLink "WidowRoads" (336 : Nat) ({ cls := "WidowRoads", name := "every", desc := "()I" } : Jvm.MethodName)) ∈ lw_all := lw_g (lw_at lw_m6 123 rfl) rfl
theorem q1464 : (Jvm.Cond.privateMethod ({ cls := "WidowRoads", name := "every", desc := "()I" } : Jvm.MethodName)) ∈ lw_tbl := lw_at lw_m6 124 rfl
theorem q1465 : (Jvm.Cond.instanceMethod ({ cls := "WidowRoads", name := "every", desc := "()I" } : Jvm.MethodName)) ∈ lw_all := lw_g (lw_at lw_m6 125 rfl) rfl
theorem q1466 : (Jvm.Cond.code ({ cls := "WidowRoads", name := "every", desc := "()I" } : Jvm.MethodName) prog_1_method_14_code (1 : Nat) (Option.some Jvm.ClassFile.FieldType.int)) ∈ lw_all := lw_g (lw_at lw_m6 126 rfl) rfl
theorem q1467 : (Jvm.Cond.methodLink "WidowRoads" (339 : Nat) ({ cls := "WidowRoads", name := "beenOf", desc := "(I)J" } : Jvm.MethodName)) ∈ lw_all := lw_g (lw_at lw_m6 127 rfl) rfl
theorem q1468 : (Jvm.Cond.privateMethod ({ cls := "WidowRoads", name := "beenOf", desc := "(I)J" } : Jvm.MethodName)) ∈ lw_tbl := lw_at lw_m6 128 rfl
theorem q1469 : (Jvm.Cond.instanceMethod ({ cls := "WidowRoads", name := "beenOf", desc := "(I)J" } : Jvm.MethodName)) ∈ lw_all := lw_g (lw_at lw_m6 129 rfl) rfl
theorem q1470 : (Jvm.Cond.code ({ cls := "WidowRoads", name := "beenOf", desc := "(I)J" } : Jvm.MethodName) prog_1_method_69_code (5 : Nat) (Option.some Jvm.ClassFile.FieldType.long)) ∈ lw_all := lw_g (lw_at lw_m6 130 rfl) rfl
theorem q1471 : (Jvm.Cond.methodLink "WidowRoads" (333 : Nat) ({ cls := "WidowRoads", name := "isOn", desc := "(II)Z" } : Jvm.MethodName)) ∈ lw_all := lw_g (lw_at lw_m6 131 rfl) rfl
theorem q1473 : (Jvm.Cond.instanceMethod ({ cls := "WidowRoads", name := "covers", desc := "()I" } : Jvm.MethodName)) ∈ lw_all := lw_g (lw_at lw_m6 133 rfl) rfl
theorem q1474 : (Jvm.Cond.selects "WidowRoads" ({ cls := "WidowRoads", name := "covers", desc := "()I" } : Jvm.MethodName) ({ cls := "WidowRoads", name := "covers", desc := "()I" } : Jvm.MethodName)) ∈ lw_all := lw_g (lw_at lw_m6 134 rfl) rfl
theorem q1475 : (Jvm.Cond.code ({ cls := "WidowRoads", name := "covers", desc := "()I" } : Jvm.MethodName) prog_1_method_72_code (1 : Nat) (Option.some Jvm.ClassFile.FieldType.int)) ∈ lw_all := lw_g (lw_at lw_m6 135 rfl) rfl
theorem q1477 : (Jvm.Cond.instanceMethod ({ cls := "WidowRoads", name := "blame", desc := "()I" } : Jvm.MethodName)) ∈ lw_all := lw_g (lw_at lw_m6 137 rfl) rfl
theorem q1478 : (Jvm.Cond.selects "WidowRoads" ({ cls := "WidowRoads", name := "blame", desc := "()I" } : Jvm.MethodName) ({ cls := "WidowRoads", name := "blame", desc := "()I" } : Jvm.MethodName)) ∈ lw_all := lw_g (lw_at lw_m6 138 rfl) rfl
theorem q1479 : (Jvm.Cond.code ({ cls := "WidowRoads", name := "blame", desc := "()I" } : Jvm.MethodName) prog_1_method_73_code (5 : Nat) (Option.some Jvm.ClassFile.FieldType.int)) ∈ lw_all := lw_g (lw_at lw_m6 139 rfl) rfl
theorem q1480 : (Jvm.Cond.methodLink "WidowRoads" (346 : Nat) ({ cls := "WidowRoads$Walks", name := "moved", desc := "()I" } : Jvm.MethodName)) ∈ lw_all := lw_g (lw_at lw_m6 140 rfl) rfl
theorem q1485 : (Jvm.Cond.instanceMethod ({ cls := "WidowRoads", name := "ford", desc := "()I" } : Jvm.MethodName)) ∈ lw_all := lw_g (lw_at lw_m6 145 rfl) rfl
theorem q1486 : (Jvm.Cond.selects "WidowRoads" ({ cls := "WidowRoads", name := "ford", desc := "()I" } : Jvm.MethodName) ({ cls := "WidowRoads", name := "ford", desc := "()I" } : Jvm.MethodName)) ∈ lw_all := lw_g (lw_at lw_m6 146 rfl) rfl
theorem q1487 : (Jvm.Cond.code ({ cls := "WidowRoads", name := "ford", desc := "()I" } : Jvm.MethodName) prog_1_method_74_code (5 : Nat) (Option.some Jvm.ClassFile.FieldType.int)) ∈ lw_all := lw_g (lw_at lw_m6 147 rfl) rfl
theorem q1488 : (Jvm.Cond.methodLink "WidowRoads" (351 : Nat) ({ cls := "WidowRoads$Walks", name := "last", desc := "()I" } : Jvm.MethodName)) ∈ lw_all := lw_g (lw_at lw_m6 148 rfl) rfl
theorem q1494 : (Jvm.Cond.instanceMethod ({ cls := "WidowRoads", name := "faced", desc := "(II)I" } : Jvm.MethodName)) ∈ lw_all := lw_g (lw_at lw_m6 154 rfl) rfl
theorem q1495 : (Jvm.Cond.selects "WidowRoads" ({ cls := "WidowRoads", name := "faced", desc := "(II)I" } : Jvm.MethodName) ({ cls := "WidowRoads", name := "faced", desc := "(II)I" } : Jvm.MethodName)) ∈ lw_all := lw_g (lw_at lw_m6 155 rfl) rfl
theorem q1496 : (Jvm.Cond.code ({ cls := "WidowRoads", name := "faced", desc := "(II)I" } : Jvm.MethodName) prog_1_method_78_code (4 : Nat) (Option.some Jvm.ClassFile.FieldType.int)) ∈ lw_all := lw_g (lw_at lw_m6 156 rfl) rfl
theorem q1497 : (Jvm.Cond.methodLink "WidowRoads" (368 : Nat) ({ cls := "WidowRoads", name := "whyNotOf", desc := "(II)I" } : Jvm.MethodName)) ∈ lw_all := lw_g (lw_at lw_m6 157 rfl) rfl
theorem q1498 : (Jvm.Cond.privateMethod ({ cls := "WidowRoads", name := "whyNotOf", desc := "(II)I" } : Jvm.MethodName)) ∈ lw_tbl := lw_at lw_m6 158 rfl
theorem q1499 : (Jvm.Cond.instanceMethod ({ cls := "WidowRoads", name := "whyNotOf", desc := "(II)I" } : Jvm.MethodName)) ∈ lw_all := lw_g (lw_at lw_m6 159 rfl) rfl
theorem q1500 : (Jvm.Cond.code ({ cls := "WidowRoads", name := "whyNotOf", desc := "(II)I" } : Jvm.MethodName) prog_1_method_76_code (3 : Nat) (Option.some Jvm.ClassFile.FieldType.int)) ∈ lw_all := lw_g (lw_at lw_m6 160 rfl) rfl
theorem q1501 : (Jvm.Cond.methodLink "WidowRoads" (365 : Nat) ({ cls := "WidowRoads", name := "whyNot", desc := "(I)I" } : Jvm.MethodName)) ∈ lw_all := lw_g (lw_at lw_m6 161 rfl) rfl
theorem q1502 : (Jvm.Cond.privateMethod ({ cls := "WidowRoads", name := "whyNot", desc := "(I)I" } : Jvm.MethodName)) ∈ lw_tbl := lw_at lw_m6 162 rfl
theorem q1503 : (Jvm.Cond.instanceMethod ({ cls := "WidowRoads", name := "whyNot", desc := "(I)I" } : Jvm.MethodName)) ∈ lw_all := lw_g (lw_at lw_m6 163 rfl) rfl
theorem q1504 : (Jvm.Cond.code ({ cls := "WidowRoads", name := "whyNot", desc := "(I)I" } : Jvm.MethodName) prog_1_method_75_code (4 : Nat) (Option.some Jvm.ClassFile.FieldType.int)) ∈ lw_all := lw_g (lw_at lw_m6 164 rfl) rfl
theorem q1505 : (Jvm.Cond.methodLink "WidowRoads" (361 : Nat) ({ cls := "WidowRoads$Slot", name := "many", desc := "()I" } : Jvm.MethodName)) ∈ lw_all := lw_g (lw_at lw_m6 165 rfl) rfl
theorem q1509 : (Jvm.Cond.methodLink "WidowRoads" (362 : Nat) ({ cls := "WidowRoads$Slot", name := "number", desc := "(I)J" } : Jvm.MethodName)) ∈ lw_all := lw_g (lw_at lw_m6 169 rfl) rfl
theorem q1513 : (Jvm.Cond.methodLink "WidowRoads" (371 : Nat) ({ cls := "WidowRoads$Faced", name := "of", desc := "(LWidowRoads$Slot;I)LWidowRoads$Faced;" } : Jvm.MethodName)) ∈ lw_all := lw_g (lw_at lw_m6 173 rfl) rfl
theorem q1520 : (Jvm.Cond.privateMethod ({ cls := "WidowRoads", name := "isSo", desc := "(LWidowRoads$Slot;)Z" } : Jvm.MethodName)) ∈ lw_tbl := lw_at lw_m6 180 rfl
theorem q1521 : (Jvm.Cond.instanceMethod ({ cls := "WidowRoads", name := "isSo", desc := "(LWidowRoads$Slot;)Z" } : Jvm.MethodName)) ∈ lw_all := lw_g (lw_at lw_m6 181 rfl) rfl
theorem q1522 : (Jvm.Cond.code ({ cls := "WidowRoads", name := "isSo", desc := "(LWidowRoads$Slot;)Z" } : Jvm.MethodName) prog_1_method_77_code (3 : Nat) (Option.some Jvm.ClassFile.FieldType.boolean)) ∈ lw_all := lw_g (lw_at lw_m6 182 rfl) rfl
theorem q1536 : (Jvm.Cond.instanceMethod ({ cls := "WidowRoads", name := "ask", desc := "(II)I" } : Jvm.MethodName)) ∈ lw_all := lw_g (lw_at lw_m6 196 rfl) rfl
theorem q1537 : (Jvm.Cond.selects "WidowRoads" ({ cls := "WidowRoads", name := "ask", desc := "(II)I" } : Jvm.MethodName) ({ cls := "WidowRoads", name := "ask", desc := "(II)I" } : Jvm.MethodName)) ∈ lw_all := lw_g (lw_at lw_m6 197 rfl) rfl
theorem q1538 : (Jvm.Cond.code ({ cls := "WidowRoads", name := "ask", desc := "(II)I" } : Jvm.MethodName) prog_1_method_79_code (4 : Nat) (Option.some Jvm.ClassFile.FieldType.int)) ∈ lw_all := lw_g (lw_at lw_m6 198 rfl) rfl
theorem q1540 : (Jvm.Cond.instanceMethod ({ cls := "WidowRoads", name := "leaves", desc := "(II)I" } : Jvm.MethodName)) ∈ lw_all := lw_g (lw_at lw_m6 200 rfl) rfl
theorem q1541 : (Jvm.Cond.selects "WidowRoads" ({ cls := "WidowRoads", name := "leaves", desc := "(II)I" } : Jvm.MethodName) ({ cls := "WidowRoads", name := "leaves", desc := "(II)I" } : Jvm.MethodName)) ∈ lw_all := lw_g (lw_at lw_m6 201 rfl) rfl
theorem q1542 : (Jvm.Cond.code ({ cls := "WidowRoads", name := "leaves", desc := "(II)I" } : Jvm.MethodName) prog_1_method_80_code (4 : Nat) (Option.some Jvm.ClassFile.FieldType.int)) ∈ lw_all := lw_g (lw_at lw_m6 202 rfl) rfl
theorem q1544 : (Jvm.Cond.instanceMethod ({ cls := "WidowRoads", name := "griefs", desc := "(II)I" } : Jvm.MethodName)) ∈ lw_all := lw_g (lw_at lw_m6 204 rfl) rfl
theorem q1545 : (Jvm.Cond.selects "WidowRoads" ({ cls := "WidowRoads", name := "griefs", desc := "(II)I" } : Jvm.MethodName) ({ cls := "WidowRoads", name := "griefs", desc := "(II)I" } : Jvm.MethodName)) ∈ lw_all := lw_g (lw_at lw_m6 205 rfl) rfl
theorem q1546 : (Jvm.Cond.code ({ cls := "WidowRoads", name := "griefs", desc := "(II)I" } : Jvm.MethodName) prog_1_method_81_code (6 : Nat) (Option.some Jvm.ClassFile.FieldType.int)) ∈ lw_all := lw_g (lw_at lw_m6 206 rfl) rfl
theorem q1547 : (Jvm.Cond.methodLink "WidowRoads" (386 : Nat) ({ cls := "WidowRoads", name := "isSo", desc := "(LWidowRoads$Slot;)Z" } : Jvm.MethodName)) ∈ lw_all := lw_g (lw_at lw_m6 207 rfl) rfl
theorem q1549 : (Jvm.Cond.instanceMethod ({ cls := "WidowRoads", name := "laws", desc := "(I)I" } : Jvm.MethodName)) ∈ lw_all := lw_g (lw_at lw_m6 209 rfl) rfl
theorem q1550 : (Jvm.Cond.selects "WidowRoads" ({ cls := "WidowRoads", name := "laws", desc := "(I)I" } : Jvm.MethodName) ({ cls := "WidowRoads", name := "laws", desc := "(I)I" } : Jvm.MethodName)) ∈ lw_all := lw_g (lw_at lw_m6 210 rfl) rfl
theorem q1551 : (Jvm.Cond.code ({ cls := "WidowRoads", name := "laws", desc := "(I)I" } : Jvm.MethodName) prog_1_method_83_code (5 : Nat) (Option.some Jvm.ClassFile.FieldType.int)) ∈ lw_all := lw_g (lw_at lw_m6 211 rfl) rfl
theorem q1552 : (Jvm.Cond.methodLink "WidowRoads" (393 : Nat) ({ cls := "WidowRoads", name := "byLaw", desc := "(I)LWidowRoads$Walks;" } : Jvm.MethodName)) ∈ lw_all := lw_g (lw_at lw_m6 212 rfl) rfl
theorem q1553 : (Jvm.Cond.privateMethod ({ cls := "WidowRoads", name := "byLaw", desc := "(I)LWidowRoads$Walks;" } : Jvm.MethodName)) ∈ lw_tbl := lw_at lw_m6 213 rfl
theorem q1554 : (Jvm.Cond.instanceMethod ({ cls := "WidowRoads", name := "byLaw", desc := "(I)LWidowRoads$Walks;" } : Jvm.MethodName)) ∈ lw_all := lw_g (lw_at lw_m6 214 rfl) rfl
theorem q1555 : (Jvm.Cond.code ({ cls := "WidowRoads", name := "byLaw", desc := "(I)LWidowRoads$Walks;" } : Jvm.MethodName) prog_1_method_82_code (2 : Nat) (Option.some (Jvm.ClassFile.FieldType.object "WidowRoads$Walks"))) ∈ lw_all := lw_g (lw_at lw_m6 215 rfl) rfl
theorem q1557 : (Jvm.Cond.instanceMethod ({ cls := "WidowRoads", name := "by", desc := "(I)I" } : Jvm.MethodName)) ∈ lw_all := lw_g (lw_at lw_m6 217 rfl) rfl
theorem q1558 : (Jvm.Cond.selects "WidowRoads" ({ cls := "WidowRoads", name := "by", desc := "(I)I" } : Jvm.MethodName) ({ cls := "WidowRoads", name := "by", desc := "(I)I" } : Jvm.MethodName)) ∈ lw_all := lw_g (lw_at lw_m6 218 rfl) rfl
theorem q1559 : (Jvm.Cond.code ({ cls := "WidowRoads", name := "by", desc := "(I)I" } : Jvm.MethodName) prog_1_method_84_code (2 : Nat) (Option.some Jvm.ClassFile.FieldType.int)) ∈ lw_all := lw_g (lw_at lw_m6 219 rfl) rfl
theorem q1560 : (Jvm.Cond.methodLink "WidowRoads" (397 : Nat) ({ cls := "WidowRoads", name := "isLaw", desc := "(I)Z" } : Jvm.MethodName)) ∈ lw_all := lw_g (lw_at lw_m6 220 rfl) rfl
theorem q1561 : (Jvm.Cond.static ({ cls := "WidowRoads", name := "isLaw", desc := "(I)Z" } : Jvm.MethodName)) ∈ lw_all := lw_g (lw_at lw_m6 221 rfl) rfl
theorem q1562 : (Jvm.Cond.code ({ cls := "WidowRoads", name := "isLaw", desc := "(I)Z" } : Jvm.MethodName) prog_1_method_21_code (1 : Nat) (Option.some Jvm.ClassFile.FieldType.boolean)) ∈ lw_all := lw_g (lw_at lw_m6 222 rfl) rfl
theorem q1564 : (Jvm.Cond.instanceMethod ({ cls := "WidowRoads", name := "law", desc := "()I" } : Jvm.MethodName)) ∈ lw_all := lw_g (lw_at lw_m6 224 rfl) rfl
theorem q1565 : (Jvm.Cond.selects "WidowRoads" ({ cls := "WidowRoads", name := "law", desc := "()I" } : Jvm.MethodName) ({ cls := "WidowRoads", name := "law", desc := "()I" } : Jvm.MethodName)) ∈ lw_all := lw_g (lw_at lw_m6 225 rfl) rfl
theorem q1566 : (Jvm.Cond.code ({ cls := "WidowRoads", name := "law", desc := "()I" } : Jvm.MethodName) prog_1_method_85_code (3 : Nat) (Option.some Jvm.ClassFile.FieldType.int)) ∈ lw_all := lw_g (lw_at lw_m6 226 rfl) rfl
theorem q1568 : (Jvm.Cond.instanceMethod ({ cls := "WidowRoads", name := "worth", desc := "(I)I" } : Jvm.MethodName)) ∈ lw_all := lw_g (lw_at lw_m6 228 rfl) rfl
theorem q1569 : (Jvm.Cond.selects "WidowRoads" ({ cls := "WidowRoads", name := "worth", desc := "(I)I" } : Jvm.MethodName) ({ cls := "WidowRoads", name := "worth", desc := "(I)I" } : Jvm.MethodName)) ∈ lw_all := lw_g (lw_at lw_m6 229 rfl) rfl
theorem q1570 : (Jvm.Cond.code ({ cls := "WidowRoads", name := "worth", desc := "(I)I" } : Jvm.MethodName) prog_1_method_87_code (2 : Nat) (Option.some Jvm.ClassFile.FieldType.int)) ∈ lw_all := lw_g (lw_at lw_m6 230 rfl) rfl
theorem q1571 : (Jvm.Cond.methodLink "WidowRoads" (400 : Nat) ({ cls := "WidowRoads", name := "worthOf", desc := "(I)I" } : Jvm.MethodName)) ∈ lw_all := lw_g (lw_at lw_m6 231 rfl) rfl
theorem q1572 : (Jvm.Cond.privateMethod ({ cls := "WidowRoads", name := "worthOf", desc := "(I)I" } : Jvm.MethodName)) ∈ lw_tbl := lw_at lw_m6 232 rfl
theorem q1573 : (Jvm.Cond.instanceMethod ({ cls := "WidowRoads", name := "worthOf", desc := "(I)I" } : Jvm.MethodName)) ∈ lw_all := lw_g (lw_at lw_m6 233 rfl) rfl
theorem q1574 : (Jvm.Cond.code ({ cls := "WidowRoads", name := "worthOf", desc := "(I)I" } : Jvm.MethodName) prog_1_method_86_code (2 : Nat) (Option.some Jvm.ClassFile.FieldType.int)) ∈ lw_all := lw_g (lw_at lw_m6 234 rfl) rfl
theorem q1576 : (Jvm.Cond.instanceMethod ({ cls := "WidowRoads", name := "share", desc := "(II)I" } : Jvm.MethodName)) ∈ lw_all := lw_g (lw_at lw_m6 236 rfl) rfl
theorem q1577 : (Jvm.Cond.selects "WidowRoads" ({ cls := "WidowRoads", name := "share", desc := "(II)I" } : Jvm.MethodName) ({ cls := "WidowRoads", name := "share", desc := "(II)I" } : Jvm.MethodName)) ∈ lw_all := lw_g (lw_at lw_m6 237 rfl) rfl
theorem q1578 : (Jvm.Cond.code ({ cls := "WidowRoads", name := "share", desc := "(II)I" } : Jvm.MethodName) prog_1_method_91_code (7 : Nat) (Option.some Jvm.ClassFile.FieldType.int)) ∈ lw_all := lw_g (lw_at lw_m6 238 rfl) rfl
theorem q1579 : (Jvm.Cond.methodLink "WidowRoads" (414 : Nat) ({ cls := "WidowRoads", name := "isBit", desc := "(I)Z" } : Jvm.MethodName)) ∈ lw_all := lw_g (lw_at lw_m6 239 rfl) rfl
theorem q1580 : (Jvm.Cond.static ({ cls := "WidowRoads", name := "isBit", desc := "(I)Z" } : Jvm.MethodName)) ∈ lw_all := lw_g (lw_at lw_m7 0 rfl) rfl
theorem q1581 : (Jvm.Cond.code ({ cls := "WidowRoads", name := "isBit", desc := "(I)Z" } : Jvm.MethodName) prog_1_method_22_code (1 : Nat) (Option.some Jvm.ClassFile.FieldType.boolean)) ∈ lw_all := lw_g (lw_at lw_m7 1 rfl) rfl
theorem q1582 : (Jvm.Cond.constant "WidowRoads" (417 : Nat) (-1000000 : Int32)) ∈ lw_all := lw_g (lw_at lw_m7 2 rfl) rfl
theorem q1583 : (Jvm.Cond.methodLink "WidowRoads" (403 : Nat) ({ cls := "WidowRoads", name := "factorial", desc := "(I)J" } : Jvm.MethodName)) ∈ lw_all := lw_g (lw_at lw_m7 3 rfl) rfl
theorem q1584 : (Jvm.Cond.static ({ cls := "WidowRoads", name := "factorial", desc := "(I)J" } : Jvm.MethodName)) ∈ lw_all := lw_g (lw_at lw_m7 4 rfl) rfl
theorem q1585 : (Jvm.Cond.code ({ cls := "WidowRoads", name := "factorial", desc := "(I)J" } : Jvm.MethodName) prog_1_method_88_code (1 : Nat) (Option.some Jvm.ClassFile.FieldType.long)) ∈ lw_all := lw_g (lw_at lw_m7 5 rfl) rfl
theorem q1586 : (Jvm.Cond.methodLink "WidowRoads" (418 : Nat) ({ cls := "WidowRoads", name := "part", desc := "(JJI)J" } : Jvm.MethodName)) ∈ lw_all := lw_g (lw_at lw_m7 6 rfl) rfl
theorem q1587 : (Jvm.Cond.static ({ cls := "WidowRoads", name := "part", desc := "(JJI)J" } : Jvm.MethodName)) ∈ lw_all := lw_g (lw_at lw_m7 7 rfl) rfl
theorem q1588 : (Jvm.Cond.code ({ cls := "WidowRoads", name := "part", desc := "(JJI)J" } : Jvm.MethodName) prog_1_method_90_code (5 : Nat) (Option.some Jvm.ClassFile.FieldType.long)) ∈ lw_all := lw_g (lw_at lw_m7 8 rfl) rfl
theorem q1589 : (Jvm.Cond.methodLink "WidowRoads" (410 : Nat) ({ cls := "WidowRoads", name := "common", desc := "(JJ)J" } : Jvm.MethodName)) ∈ lw_all := lw_g (lw_at lw_m7 9 rfl) rfl
theorem q1590 : (Jvm.Cond.static ({ cls := "WidowRoads", name := "common", desc := "(JJ)J" } : Jvm.MethodName)) ∈ lw_all := lw_g (lw_at lw_m7 10 rfl) rfl
theorem q1591 : (Jvm.Cond.code ({ cls := "WidowRoads", name := "common", desc := "(JJ)J" } : Jvm.MethodName) prog_1_method_89_code (4 : Nat) (Option.some Jvm.ClassFile.FieldType.long)) ∈ lw_all := lw_g (lw_at lw_m7 11 rfl) rfl
theorem q1592 : (Jvm.Cond.methodLink "WidowRoads" (406 : Nat) ({ cls := "java/lang/Math", name := "abs", desc := "(J)J" } : Jvm.MethodName)) ∈ lw_all := lw_g (lw_at lw_m7 12 rfl) rfl
theorem q1596 : (Jvm.Cond.instanceMethod ({ cls := "WidowRoads", name := "rests", desc := "(II)I" } : Jvm.MethodName)) ∈ lw_all := lw_g (lw_at lw_m7 16 rfl) rfl
theorem q1597 : (Jvm.Cond.selects "WidowRoads" ({ cls := "WidowRoads", name := "rests", desc := "(II)I" } : Jvm.MethodName) ({ cls := "WidowRoads", name := "rests", desc := "(II)I" } : Jvm.MethodName)) ∈ lw_all := lw_g (lw_at lw_m7 17 rfl) rfl
theorem q1598 : (Jvm.Cond.code ({ cls := "WidowRoads", name := "rests", desc := "(II)I" } : Jvm.MethodName) prog_1_method_94_code (5 : Nat) (Option.some Jvm.ClassFile.FieldType.int)) ∈ lw_all := lw_g (lw_at lw_m7 18 rfl) rfl
theorem q1599 : (Jvm.Cond.methodLink "WidowRoads" (426 : Nat) ({ cls := "WidowRoads", name := "areTwo", desc := "(II)Z" } : Jvm.MethodName)) ∈ lw_all := lw_g (lw_at lw_m7 19 rfl) rfl
theorem q1600 : (Jvm.Cond.privateMethod ({ cls := "WidowRoads", name := "areTwo", desc := "(II)Z" } : Jvm.MethodName)) ∈ lw_tbl := lw_at lw_m7 20 rfl
theorem q1601 : (Jvm.Cond.instanceMethod ({ cls := "WidowRoads", name := "areTwo", desc := "(II)Z" } : Jvm.MethodName)) ∈ lw_all := lw_g (lw_at lw_m7 21 rfl) rfl
theorem q1602 : (Jvm.Cond.code ({ cls := "WidowRoads", name := "areTwo", desc := "(II)Z" } : Jvm.MethodName) prog_1_method_18_code (3 : Nat) (Option.some Jvm.ClassFile.FieldType.boolean)) ∈ lw_all := lw_g (lw_at lw_m7 22 rfl) rfl
theorem q1603 : (Jvm.Cond.methodLink "WidowRoads" (429 : Nat) ({ cls := "WidowRoads", name := "isRest", desc := "(IIII)Z" } : Jvm.MethodName)) ∈ lw_all := lw_g (lw_at lw_m7 23 rfl) rfl
theorem q1604 : (Jvm.Cond.privateMethod ({ cls := "WidowRoads", name := "isRest", desc := "(IIII)Z" } : Jvm.MethodName)) ∈ lw_tbl := lw_at lw_m7 24 rfl
theorem q1605 : (Jvm.Cond.instanceMethod ({ cls := "WidowRoads", name := "isRest", desc := "(IIII)Z" } : Jvm.MethodName)) ∈ lw_all := lw_g (lw_at lw_m7 25 rfl) rfl
theorem q1606 : (Jvm.Cond.code ({ cls := "WidowRoads", name := "isRest", desc := "(IIII)Z" } : Jvm.MethodName) prog_1_method_93_code (5 : Nat) (Option.some Jvm.ClassFile.FieldType.boolean)) ∈ lw_all := lw_g (lw_at lw_m7 26 rfl) rfl
theorem q1607 : (Jvm.Cond.methodLink "WidowRoads" (422 : Nat) ({ cls := "WidowRoads", name := "getsOf", desc := "(IIIII)I" } : Jvm.MethodName)) ∈ lw_all := lw_g (lw_at lw_m7 27 rfl) rfl
theorem q1608 : (Jvm.Cond.privateMethod ({ cls := "WidowRoads", name := "getsOf", desc := "(IIIII)I" } : Jvm.MethodName)) ∈ lw_tbl := lw_at lw_m7 28 rfl
theorem q1609 : (Jvm.Cond.instanceMethod ({ cls := "WidowRoads", name := "getsOf", desc := "(IIIII)I" } : Jvm.MethodName)) ∈ lw_all := lw_g (lw_at lw_m7 29 rfl) rfl
theorem q1610 : (Jvm.Cond.code ({ cls := "WidowRoads", name := "getsOf", desc := "(IIIII)I" } : Jvm.MethodName) prog_1_method_92_code (6 : Nat) (Option.some Jvm.ClassFile.FieldType.int)) ∈ lw_all := lw_g (lw_at lw_m7 30 rfl) rfl
theorem q1612 : (Jvm.Cond.instanceMethod ({ cls := "WidowRoads", name := "gets", desc := "(IIII)I" } : Jvm.MethodName)) ∈ lw_all := lw_g (lw_at lw_m7 32 rfl) rfl
theorem q1613 : (Jvm.Cond.selects "WidowRoads" ({ cls := "WidowRoads", name := "gets", desc := "(IIII)I" } : Jvm.MethodName) ({ cls := "WidowRoads", name := "gets", desc := "(IIII)I" } : Jvm.MethodName)) ∈ lw_all := lw_g (lw_at lw_m7 33 rfl) rfl
theorem q1614 : (Jvm.Cond.code ({ cls := "WidowRoads", name := "gets", desc := "(IIII)I" } : Jvm.MethodName) prog_1_method_95_code (5 : Nat) (Option.some Jvm.ClassFile.FieldType.int)) ∈ lw_all := lw_g (lw_at lw_m7 34 rfl) rfl
theorem q1616 : (Jvm.Cond.instanceMethod ({ cls := "WidowRoads", name := "chance", desc := "(II)J" } : Jvm.MethodName)) ∈ lw_all := lw_g (lw_at lw_m7 36 rfl) rfl
theorem q1617 : (Jvm.Cond.selects "WidowRoads" ({ cls := "WidowRoads", name := "chance", desc := "(II)J" } : Jvm.MethodName) ({ cls := "WidowRoads", name := "chance", desc := "(II)J" } : Jvm.MethodName)) ∈ lw_all := lw_g (lw_at lw_m7 37 rfl) rfl
theorem q1618 : (Jvm.Cond.code ({ cls := "WidowRoads", name := "chance", desc := "(II)J" } : Jvm.MethodName) prog_1_method_98_code (3 : Nat) (Option.some Jvm.ClassFile.FieldType.long)) ∈ lw_all := lw_g (lw_at lw_m7 38 rfl) rfl
theorem q1619 : (Jvm.Cond.methodLink "WidowRoads" (440 : Nat) ({ cls := "WidowRoads", name := "sum", desc := "(I)J" } : Jvm.MethodName)) ∈ lw_all := lw_g (lw_at lw_m7 39 rfl) rfl
theorem q1620 : (Jvm.Cond.privateMethod ({ cls := "WidowRoads", name := "sum", desc := "(I)J" } : Jvm.MethodName)) ∈ lw_tbl := lw_at lw_m7 40 rfl
theorem q1621 : (Jvm.Cond.instanceMethod ({ cls := "WidowRoads", name := "sum", desc := "(I)J" } : Jvm.MethodName)) ∈ lw_all := lw_g (lw_at lw_m7 41 rfl) rfl
theorem q1622 : (Jvm.Cond.code ({ cls := "WidowRoads", name := "sum", desc := "(I)J" } : Jvm.MethodName) prog_1_method_97_code (5 : Nat) (Option.some Jvm.ClassFile.FieldType.long)) ∈ lw_all := lw_g (lw_at lw_m7 42 rfl) rfl
theorem q1623 : (Jvm.Cond.methodLink "WidowRoads" (433 : Nat) ({ cls := "WidowRoads", name := "power", desc := "(JI)J" } : Jvm.MethodName)) ∈ lw_all := lw_g (lw_at lw_m7 43 rfl) rfl
theorem q1624 : (Jvm.Cond.static ({ cls := "WidowRoads", name := "power", desc := "(JI)J" } : Jvm.MethodName)) ∈ lw_all := lw_g (lw_at lw_m7 44 rfl) rfl
theorem q1625 : (Jvm.Cond.code ({ cls := "WidowRoads", name := "power", desc := "(JI)J" } : Jvm.MethodName) prog_1_method_96_code (3 : Nat) (Option.some Jvm.ClassFile.FieldType.long)) ∈ lw_all := lw_g (lw_at lw_m7 45 rfl) rfl
theorem q1626 : (Jvm.Cond.constantLong "WidowRoads" (443 : Nat) (-2 : Int64)) ∈ lw_all := lw_g (lw_at lw_m7 46 rfl) rfl
theorem q1628 : (Jvm.Cond.instanceMethod ({ cls := "WidowRoads", name := "mean", desc := "(I)J" } : Jvm.MethodName)) ∈ lw_all := lw_g (lw_at lw_m7 48 rfl) rfl
theorem q1629 : (Jvm.Cond.selects "WidowRoads" ({ cls := "WidowRoads", name := "mean", desc := "(I)J" } : Jvm.MethodName) ({ cls := "WidowRoads", name := "mean", desc := "(I)J" } : Jvm.MethodName)) ∈ lw_all := lw_g (lw_at lw_m7 49 rfl) rfl
theorem q1630 : (Jvm.Cond.code ({ cls := "WidowRoads", name := "mean", desc := "(I)J" } : Jvm.MethodName) prog_1_method_99_code (2 : Nat) (Option.some Jvm.ClassFile.FieldType.long)) ∈ lw_all := lw_g (lw_at lw_m7 50 rfl) rfl
theorem q1632 : (Jvm.Cond.instanceMethod ({ cls := "WidowRoads", name := "drawn", desc := "(II)I" } : Jvm.MethodName)) ∈ lw_all := lw_g (lw_at lw_m7 52 rfl) rfl
theorem q1633 : (Jvm.Cond.selects "WidowRoads" ({ cls := "WidowRoads", name := "drawn", desc := "(II)I" } : Jvm.MethodName) ({ cls := "WidowRoads", name := "drawn", desc := "(II)I" } : Jvm.MethodName)) ∈ lw_all := lw_g (lw_at lw_m7 53 rfl) rfl
theorem q1634 : (Jvm.Cond.code ({ cls := "WidowRoads", name := "drawn", desc := "(II)I" } : Jvm.MethodName) prog_1_method_102_code (4 : Nat) (Option.some Jvm.ClassFile.FieldType.int)) ∈ lw_all := lw_g (lw_at lw_m7 54 rfl) rfl
theorem q1635 : (Jvm.Cond.methodLink "WidowRoads" (455 : Nat) ({ cls := "WidowRoads", name := "isSeed", desc := "(I)Z" } : Jvm.MethodName)) ∈ lw_all := lw_g (lw_at lw_m7 55 rfl) rfl
theorem q1636 : (Jvm.Cond.static ({ cls := "WidowRoads", name := "isSeed", desc := "(I)Z" } : Jvm.MethodName)) ∈ lw_all := lw_g (lw_at lw_m7 56 rfl) rfl
theorem q1637 : (Jvm.Cond.code ({ cls := "WidowRoads", name := "isSeed", desc := "(I)Z" } : Jvm.MethodName) prog_1_method_101_code (1 : Nat) (Option.some Jvm.ClassFile.FieldType.boolean)) ∈ lw_all := lw_g (lw_at lw_m7 57 rfl) rfl
theorem q1638 : (Jvm.Cond.constantLong "WidowRoads" (453 : Nat) (2000000000 : Int64)) ∈ lw_all := lw_g (lw_at lw_m7 58 rfl) rfl
theorem q1639 : (Jvm.Cond.methodLink "WidowRoads" (458 : Nat) ({ cls := "WidowRoads", name := "draws", desc := "(J)I" } : Jvm.MethodName)) ∈ lw_all := lw_g (lw_at lw_m7 59 rfl) rfl
theorem q1640 : (Jvm.Cond.privateMethod ({ cls := "WidowRoads", name := "draws", desc := "(J)I" } : Jvm.MethodName)) ∈ lw_tbl := lw_at lw_m7 60 rfl
theorem q1641 : (Jvm.Cond.instanceMethod ({ cls := "WidowRoads", name := "draws", desc := "(J)I" } : Jvm.MethodName)) ∈ lw_all := lw_g (lw_at lw_m7 61 rfl) rfl
theorem q1642 : (Jvm.Cond.code ({ cls := "WidowRoads", name := "draws", desc := "(J)I" } : Jvm.MethodName) prog_1_method_100_code (7 : Nat) (Option.some Jvm.ClassFile.FieldType.int)) ∈ lw_all := lw_g (lw_at lw_m7 62 rfl) rfl
theorem q1643 : (Jvm.Cond.constantLong "WidowRoads" (445 : Nat) (1103515245 : Int64)) ∈ lw_all := lw_g (lw_at lw_m7 63 rfl) rfl
theorem q1644 : (Jvm.Cond.constantLong "WidowRoads" (447 : Nat) (12345 : Int64)) ∈ lw_all := lw_g (lw_at lw_m7 64 rfl) rfl
theorem q1645 : (Jvm.Cond.constantLong "WidowRoads" (449 : Nat) (2147483648 : Int64)) ∈ lw_all := lw_g (lw_at lw_m7 65 rfl) rfl
theorem q1646 : (Jvm.Cond.constantLong "WidowRoads" (451 : Nat) (65536 : Int64)) ∈ lw_all := lw_g (lw_at lw_m7 66 rfl) rfl
theorem q1648 : (Jvm.Cond.instanceMethod ({ cls := "WidowRoads", name := "luck", desc := "(III)I" } : Jvm.MethodName)) ∈ lw_all := lw_g (lw_at lw_m7 68 rfl) rfl
theorem q1649 : (Jvm.Cond.selects "WidowRoads" ({ cls := "WidowRoads", name := "luck", desc := "(III)I" } : Jvm.MethodName) ({ cls := "WidowRoads", name := "luck", desc := "(III)I" } : Jvm.MethodName)) ∈ lw_all := lw_g (lw_at lw_m7 69 rfl) rfl
theorem q1650 : (Jvm.Cond.code ({ cls := "WidowRoads", name := "luck", desc := "(III)I" } : Jvm.MethodName) prog_1_method_103_code (6 : Nat) (Option.some Jvm.ClassFile.FieldType.int)) ∈ lw_all := lw_g (lw_at lw_m7 70 rfl) rfl
theorem q1651 : (Jvm.Cond.constantLong "WidowRoads" (461 : Nat) (20 : Int64)) ∈ lw_all := lw_g (lw_at lw_m7 71 rfl) rfl
theorem q1653 : (Jvm.Cond.instanceMethod ({ cls := "WidowRoads", name := "bridge", desc := "(I)I" } : Jvm.MethodName)) ∈ lw_all := lw_g (lw_at lw_m7 73 rfl) rfl
theorem q1654 : (Jvm.Cond.selects "WidowRoads" ({ cls := "WidowRoads", name := "bridge", desc := "(I)I" } : Jvm.MethodName) ({ cls := "WidowRoads", name := "bridge", desc := "(I)I" } : Jvm.MethodName)) ∈ lw_all := lw_g (lw_at lw_m7 74 rfl) rfl
theorem q1655 : (Jvm.Cond.code ({ cls := "WidowRoads", name := "bridge", desc := "(I)I" } : Jvm.MethodName) prog_1_method_105_code (2 : Nat) (Option.some Jvm.ClassFile.FieldType.int)) ∈ lw_all := lw_g (lw_at lw_m7 75 rfl) rfl
theorem q1657 : (Jvm.Cond.methodLink "WidowRoads" (467 : Nat) ({ cls := "WidowRoads$Deed", name := "<init>", desc := "(ZI)V" } : Jvm.MethodName)) ∈ lw_all := lw_g (lw_at lw_m7 77 rfl) rfl
theorem q1663 : (Jvm.Cond.fieldLinkNest "WidowRoads" (179 : Nat) "WidowRoads$Deed" "isBridge" "Z" "WidowRoads") ∈ lw_tbl := lw_at lw_m7 83 rfl
theorem q1666 : (Jvm.Cond.fieldLinkNest "WidowRoads" (183 : Nat) "WidowRoads$Deed" "of" "I" "WidowRoads") ∈ lw_tbl := lw_at lw_m7 86 rfl
theorem q1672 : (Jvm.Cond.methodLink "WidowRoads" (470 : Nat) ({ cls := "WidowRoads", name := "adds", desc := "(LWidowRoads$Deed;)I" } : Jvm.MethodName)) ∈ lw_all := lw_g (lw_at lw_m7 92 rfl) rfl
theorem q1673 : (Jvm.Cond.privateMethod ({ cls := "WidowRoads", name := "adds", desc := "(LWidowRoads$Deed;)I" } : Jvm.MethodName)) ∈ lw_tbl := lw_at lw_m7 93 rfl
theorem q1674 : (Jvm.Cond.instanceMethod ({ cls := "WidowRoads", name := "adds", desc := "(LWidowRoads$Deed;)I" } : Jvm.MethodName)) ∈ lw_all := lw_g (lw_at lw_m7 94 rfl) rfl
theorem q1675 : (Jvm.Cond.code ({ cls := "WidowRoads", name := "adds", desc := "(LWidowRoads$Deed;)I" } : Jvm.MethodName) prog_1_method_104_code (2 : Nat) (Option.some Jvm.ClassFile.FieldType.int)) ∈ lw_all := lw_g (lw_at lw_m7 95 rfl) rfl
theorem q1676 : (Jvm.Cond.interfaceEntry "WidowRoads" (463 : Nat)) ∈ lw_tbl := lw_at lw_m7 96 rfl
theorem q1677 : (Jvm.Cond.methodLink "WidowRoads" (463 : Nat) ({ cls := "java/util/List", name := "add", desc := "(Ljava/lang/Object;)Z" } : Jvm.MethodName)) ∈ lw_all := lw_g (lw_at lw_m7 97 rfl) rfl
theorem q1679 : (Jvm.Cond.instanceMethod ({ cls := "WidowRoads", name := "keeps", desc := "(I)I" } : Jvm.MethodName)) ∈ lw_all := lw_g (lw_at lw_m7 99 rfl) rfl
theorem q1680 : (Jvm.Cond.selects "WidowRoads" ({ cls := "WidowRoads", name := "keeps", desc := "(I)I" } : Jvm.MethodName) ({ cls := "WidowRoads", name := "keeps", desc := "(I)I" } : Jvm.MethodName)) ∈ lw_all := lw_g (lw_at lw_m7 100 rfl) rfl
theorem q1681 : (Jvm.Cond.code ({ cls := "WidowRoads", name := "keeps", desc := "(I)I" } : Jvm.MethodName) prog_1_method_106_code (2 : Nat) (Option.some Jvm.ClassFile.FieldType.int)) ∈ lw_all := lw_g (lw_at lw_m7 101 rfl) rfl
theorem q1683 : (Jvm.Cond.instanceMethod ({ cls := "WidowRoads", name := "undo", desc := "()I" } : Jvm.MethodName)) ∈ lw_all := lw_g (lw_at lw_m7 103 rfl) rfl
theorem q1684 : (Jvm.Cond.selects "WidowRoads" ({ cls := "WidowRoads", name := "undo", desc := "()I" } : Jvm.MethodName) ({ cls := "WidowRoads", name := "undo", desc := "()I" } : Jvm.MethodName)) ∈ lw_all := lw_g (lw_at lw_m7 104 rfl) rfl
theorem q1685 : (Jvm.Cond.code ({ cls := "WidowRoads", name := "undo", desc := "()I" } : Jvm.MethodName) prog_1_method_107_code (1 : Nat) (Option.some Jvm.ClassFile.FieldType.int)) ∈ lw_all := lw_g (lw_at lw_m7 105 rfl) rfl
theorem q1686 : (Jvm.Cond.interfaceEntry "WidowRoads" (474 : Nat)) ∈ lw_tbl := lw_at lw_m7 106 rfl
theorem q1687 : (Jvm.Cond.methodLink "WidowRoads" (474 : Nat) ({ cls := "java/util/List", name := "isEmpty", desc := "()Z" } : Jvm.MethodName)) ∈ lw_all := lw_g (lw_at lw_m7 107 rfl) rfl
theorem q1695 : (Jvm.Cond.interfaceEntry "WidowRoads" (477 : Nat)) ∈ lw_tbl := lw_at lw_m7 115 rfl
theorem q1696 : (Jvm.Cond.methodLink "WidowRoads" (477 : Nat) ({ cls := "java/util/List", name := "remove", desc := "(I)Ljava/lang/Object;" } : Jvm.MethodName)) ∈ lw_all := lw_g (lw_at lw_m7 116 rfl) rfl
theorem q1710 : (Jvm.Cond.instanceMethod ({ cls := "WidowRoads", name := "anew", desc := "()I" } : Jvm.MethodName)) ∈ lw_all := lw_g (lw_at lw_m7 130 rfl) rfl
theorem q1711 : (Jvm.Cond.selects "WidowRoads" ({ cls := "WidowRoads", name := "anew", desc := "()I" } : Jvm.MethodName) ({ cls := "WidowRoads", name := "anew", desc := "()I" } : Jvm.MethodName)) ∈ lw_all := lw_g (lw_at lw_m7 131 rfl) rfl
theorem q1712 : (Jvm.Cond.code ({ cls := "WidowRoads", name := "anew", desc := "()I" } : Jvm.MethodName) prog_1_method_108_code (2 : Nat) (Option.some Jvm.ClassFile.FieldType.int)) ∈ lw_all := lw_g (lw_at lw_m7 132 rfl) rfl
theorem q1713 : (Jvm.Cond.interfaceEntry "WidowRoads" (480 : Nat)) ∈ lw_tbl := lw_at lw_m7 133 rfl
theorem q1714 : (Jvm.Cond.methodLink "WidowRoads" (480 : Nat) ({ cls := "java/util/List", name := "clear", desc := "()V" } : Jvm.MethodName)) ∈ lw_all := lw_g (lw_at lw_m7 134 rfl) rfl
theorem q1723 : (Jvm.Cond.instanceMethod ({ cls := "WidowRoads", name := "rate", desc := "(II)I" } : Jvm.MethodName)) ∈ lw_all := lw_g (lw_at lw_m7 143 rfl) rfl
theorem q1724 : (Jvm.Cond.selects "WidowRoads" ({ cls := "WidowRoads", name := "rate", desc := "(II)I" } : Jvm.MethodName) ({ cls := "WidowRoads", name := "rate", desc := "(II)I" } : Jvm.MethodName)) ∈ lw_all := lw_g (lw_at lw_m7 144 rfl) rfl
theorem q1725 : (Jvm.Cond.code ({ cls := "WidowRoads", name := "rate", desc := "(II)I" } : Jvm.MethodName) prog_1_method_109_code (4 : Nat) (Option.some Jvm.ClassFile.FieldType.int)) ∈ lw_all := lw_g (lw_at lw_m7 145 rfl) rfl
theorem q1727 : (Jvm.Cond.instanceMethod ({ cls := "WidowRoads", name := "count", desc := "(I)I" } : Jvm.MethodName)) ∈ lw_all := lw_g (lw_at lw_m7 147 rfl) rfl
theorem q1728 : (Jvm.Cond.selects "WidowRoads" ({ cls := "WidowRoads", name := "count", desc := "(I)I" } : Jvm.MethodName) ({ cls := "WidowRoads", name := "count", desc := "(I)I" } : Jvm.MethodName)) ∈ lw_all := lw_g (lw_at lw_m7 148 rfl) rfl
theorem q1729 : (Jvm.Cond.code ({ cls := "WidowRoads", name := "count", desc := "(I)I" } : Jvm.MethodName) prog_1_method_110_code (7 : Nat) (Option.some Jvm.ClassFile.FieldType.int)) ∈ lw_all := lw_g (lw_at lw_m7 149 rfl) rfl
theorem q1731 : (Jvm.Cond.instanceMethod ({ cls := "WidowRoads", name := "image", desc := "(I)I" } : Jvm.MethodName)) ∈ lw_all := lw_g (lw_at lw_m7 151 rfl) rfl
theorem q1732 : (Jvm.Cond.selects "WidowRoads" ({ cls := "WidowRoads", name := "image", desc := "(I)I" } : Jvm.MethodName) ({ cls := "WidowRoads", name := "image", desc := "(I)I" } : Jvm.MethodName)) ∈ lw_all := lw_g (lw_at lw_m7 152 rfl) rfl
theorem q1733 : (Jvm.Cond.code ({ cls := "WidowRoads", name := "image", desc := "(I)I" } : Jvm.MethodName) prog_1_method_111_code (2 : Nat) (Option.some Jvm.ClassFile.FieldType.int)) ∈ lw_all := lw_g (lw_at lw_m7 153 rfl) rfl
theorem q1734 : (Jvm.Cond.constantLong "WidowRoads" (484 : Nat) (2 : Int64)) ∈ lw_all := lw_g (lw_at lw_m7 154 rfl) rfl
theorem q1735 : (Jvm.Cond.methodLink "WidowRoads" (486 : Nat) ({ cls := "WidowRoads$Colony", name := "same", desc := "()LWidowRoads$Colony;" } : Jvm.MethodName)) ∈ lw_all := lw_g (lw_at lw_m7 155 rfl) rfl
theorem q1776 : (Jvm.Cond.instanceMethod ({ cls := "WidowRoads", name := "back", desc := "(I)I" } : Jvm.MethodName)) ∈ lw_all := lw_g (lw_at lw_m7 196 rfl) rfl
theorem q1777 : (Jvm.Cond.selects "WidowRoads" ({ cls := "WidowRoads", name := "back", desc := "(I)I" } : Jvm.MethodName) ({ cls := "WidowRoads", name := "back", desc := "(I)I" } : Jvm.MethodName)) ∈ lw_all := lw_g (lw_at lw_m7 197 rfl) rfl
theorem q1778 : (Jvm.Cond.code ({ cls := "WidowRoads", name := "back", desc := "(I)I" } : Jvm.MethodName) prog_1_method_112_code (2 : Nat) (Option.some Jvm.ClassFile.FieldType.int)) ∈ lw_all := lw_g (lw_at lw_m7 198 rfl) rfl
theorem q2588 : (Jvm.Cond.castable "WidowRoads" "java/lang/Object") ∈ lw_tbl := lw_at lw_m11 48 rfl
theorem in_X0 : ∀ w ∈ wsX00, w ∈ lw_all := lw_in wsX00 [630, 632, 634, 636, 638, 640, 642, 644, 646, 648] (by decide +kernel) (by decide +kernel)
/-! WidowRoads$Slot -/
set_option maxRecDepth 100000
def RX1 : String := "WidowRoads$Slot"
def TX1 : u_T := fun k => match k with
  | _ => ("WidowRoads$Slot", "held", "Ljava/lang/Object;", false)
def tyX1 : Nat → FieldType := fun k => match k with
  | _ => .object "java/lang/Object"
abbrev wsX10 : List Cond := u_ws RX1 TX1 1
theorem nmX1 : ∀ a, a < 1 → ∀ b, b < 1 → a ≠ b → (TX1 a).2.1 ≠ (TX1 b).2.1 := by decide +kernel
theorem tyX1_ok : ∀ k, k < 1 → parseFieldDescriptor (TX1 k).2.2.1 = some (tyX1 k) := by decide +kernel
abbrev cX1_begins : ByteArray := prog_7_method_2_code
def yX1_begins : MethodName := ⟨RX1, "begins", "(II)Z"⟩
def dkwX1_begins_3 : List UInt8 := [181, 0, 9, 167, 0, 10, 42, 28, 188, 11, 181, 0, 9, 167, 0, 6, 78, 3, 172, 4, 172]
abbrev dktX1_begins_3 : List UInt8 := dkwX1_begins_3 ++ []
def dkwX1_begins_2 : List UInt8 := [42, 28, 188, 8, 181, 0, 9, 167, 0, 30, 42, 28, 188, 9, 181, 0, 9, 167, 0, 20, 42, 28, 188, 10]
abbrev dktX1_begins_2 : List UInt8 := dkwX1_begins_2 ++ dktX1_begins_3
def dkwX1_begins_1 : List UInt8 := [170, 0, 0, 0, 0, 0, 57, 0, 0, 0, 0, 0, 0, 0, 2, 0, 0, 0, 27, 0, 0, 0, 37, 0, 0, 0, 47]
abbrev dktX1_begins_1 : List UInt8 := dkwX1_begins_1 ++ dktX1_begins_2
def dkwX1_begins_0 : List UInt8 := [27]
abbrev dktX1_begins_0 : List UInt8 := dkwX1_begins_0 ++ dktX1_begins_1
theorem dksX1_begins_0 : cX1_begins.data.toList.drop 0 = dktX1_begins_0 := by decide +kernel
theorem dksX1_begins_1 : cX1_begins.data.toList.drop 1 = dktX1_begins_1 := dk_seg dksX1_begins_0 1 rfl rfl
theorem dksX1_begins_2 : cX1_begins.data.toList.drop 28 = dktX1_begins_2 := dk_seg dksX1_begins_1 27 rfl rfl
theorem dksX1_begins_3 : cX1_begins.data.toList.drop 52 = dktX1_begins_3 := dk_seg dksX1_begins_2 24 rfl rfl
theorem dX1_begins_0 : decode cX1_begins 0 = .ok (.iload_n 1, 1) := dk_27 (dk_at dksX1_begins_0 0 rfl rfl)
theorem dX1_begins_1 : decode cX1_begins 1 = .ok (.tableswitch 57 0 2 #[27, 37, 47], 27) := by decide +kernel
theorem dX1_begins_28 : decode cX1_begins 28 = .ok (.aload_n 0, 1) := dk_42 (dk_at dksX1_begins_2 0 rfl rfl)
theorem dX1_begins_29 : decode cX1_begins 29 = .ok (.iload_n 2, 1) := dk_28 (dk_at dksX1_begins_2 1 rfl rfl)
theorem dX1_begins_30 : decode cX1_begins 30 = .ok (.newarray .byte, 2) := dk_188_8 (dk_at dksX1_begins_2 2 rfl rfl)
theorem dX1_begins_32 : decode cX1_begins 32 = .ok (.putfield 9, 3) := dk_181 0 9 (dk_at dksX1_begins_2 4 rfl rfl)
theorem dX1_begins_35 : decode cX1_begins 35 = .ok (.goto 30, 3) := dk_167 0 30 (dk_at dksX1_begins_2 7 rfl rfl)
theorem dX1_begins_38 : decode cX1_begins 38 = .ok (.aload_n 0, 1) := dk_42 (dk_at dksX1_begins_2 10 rfl rfl)
theorem dX1_begins_39 : decode cX1_begins 39 = .ok (.iload_n 2, 1) := dk_28 (dk_at dksX1_begins_2 11 rfl rfl)
theorem dX1_begins_40 : decode cX1_begins 40 = .ok (.newarray .short, 2) := dk_188_9 (dk_at dksX1_begins_2 12 rfl rfl)
theorem dX1_begins_42 : decode cX1_begins 42 = .ok (.putfield 9, 3) := dk_181 0 9 (dk_at dksX1_begins_2 14 rfl rfl)
theorem dX1_begins_45 : decode cX1_begins 45 = .ok (.goto 20, 3) := dk_167 0 20 (dk_at dksX1_begins_2 17 rfl rfl)
theorem dX1_begins_48 : decode cX1_begins 48 = .ok (.aload_n 0, 1) := dk_42 (dk_at dksX1_begins_2 20 rfl rfl)
theorem dX1_begins_49 : decode cX1_begins 49 = .ok (.iload_n 2, 1) := dk_28 (dk_at dksX1_begins_2 21 rfl rfl)
theorem dX1_begins_50 : decode cX1_begins 50 = .ok (.newarray .int, 2) := dk_188_10 (dk_at dksX1_begins_2 22 rfl rfl)
theorem dX1_begins_52 : decode cX1_begins 52 = .ok (.putfield 9, 3) := dk_181 0 9 (dk_at dksX1_begins_3 0 rfl rfl)
theorem dX1_begins_55 : decode cX1_begins 55 = .ok (.goto 10, 3) := dk_167 0 10 (dk_at dksX1_begins_3 3 rfl rfl)
theorem dX1_begins_58 : decode cX1_begins 58 = .ok (.aload_n 0, 1) := dk_42 (dk_at dksX1_begins_3 6 rfl rfl)
theorem dX1_begins_59 : decode cX1_begins 59 = .ok (.iload_n 2, 1) := dk_28 (dk_at dksX1_begins_3 7 rfl rfl)
theorem dX1_begins_60 : decode cX1_begins 60 = .ok (.newarray .long, 2) := dk_188_11 (dk_at dksX1_begins_3 8 rfl rfl)
theorem dX1_begins_62 : decode cX1_begins 62 = .ok (.putfield 9, 3) := dk_181 0 9 (dk_at dksX1_begins_3 10 rfl rfl)
theorem dX1_begins_65 : decode cX1_begins 65 = .ok (.goto 6, 3) := dk_167 0 6 (dk_at dksX1_begins_3 13 rfl rfl)
theorem dX1_begins_68 : decode cX1_begins 68 = .ok (.astore_n 3, 1) := dk_78 (dk_at dksX1_begins_3 16 rfl rfl)
theorem dX1_begins_69 : decode cX1_begins 69 = .ok (.iconst 0, 1) := dk_3 (dk_at dksX1_begins_3 17 rfl rfl)
theorem dX1_begins_70 : decode cX1_begins 70 = .ok (.ireturn, 1) := dk_172 (dk_at dksX1_begins_3 18 rfl rfl)
theorem dX1_begins_71 : decode cX1_begins 71 = .ok (.iconst 1, 1) := dk_4 (dk_at dksX1_begins_3 19 rfl rfl)
theorem dX1_begins_72 : decode cX1_begins 72 = .ok (.ireturn, 1) := dk_172 (dk_at dksX1_begins_3 20 rfl rfl)
abbrev cX1_puts : ByteArray := prog_7_method_5_code
def yX1_puts : MethodName := ⟨RX1, "puts", "(IJ)I"⟩
def dkwX1_puts_0 : List UInt8 := [42, 27, 32, 182, 0, 25, 167, 0, 13, 58, 4, 16, 250, 172, 58, 4, 16, 249, 172, 3, 172]
abbrev dktX1_puts_0 : List UInt8 := dkwX1_puts_0 ++ []
theorem dksX1_puts_0 : cX1_puts.data.toList.drop 0 = dktX1_puts_0 := by decide +kernel
theorem dX1_puts_0 : decode cX1_puts 0 = .ok (.aload_n 0, 1) := dk_42 (dk_at dksX1_puts_0 0 rfl rfl)
theorem dX1_puts_1 : decode cX1_puts 1 = .ok (.iload_n 1, 1) := dk_27 (dk_at dksX1_puts_0 1 rfl rfl)
theorem dX1_puts_2 : decode cX1_puts 2 = .ok (.lload_n 2, 1) := dk_32 (dk_at dksX1_puts_0 2 rfl rfl)
theorem dX1_puts_3 : decode cX1_puts 3 = .ok (.invokevirtual 25, 3) := dk_182 0 25 (dk_at dksX1_puts_0 3 rfl rfl)
theorem dX1_puts_6 : decode cX1_puts 6 = .ok (.goto 13, 3) := dk_167 0 13 (dk_at dksX1_puts_0 6 rfl rfl)
theorem dX1_puts_9 : decode cX1_puts 9 = .ok (.astore 4, 2) := dk_58 4 (dk_at dksX1_puts_0 9 rfl rfl)
theorem dX1_puts_11 : decode cX1_puts 11 = .ok (.bipush (-6), 2) := dk_16 250 (dk_at dksX1_puts_0 11 rfl rfl)
theorem dX1_puts_13 : decode cX1_puts 13 = .ok (.ireturn, 1) := dk_172 (dk_at dksX1_puts_0 13 rfl rfl)
theorem dX1_puts_14 : decode cX1_puts 14 = .ok (.astore 4, 2) := dk_58 4 (dk_at dksX1_puts_0 14 rfl rfl)
theorem dX1_puts_16 : decode cX1_puts 16 = .ok (.bipush (-7), 2) := dk_16 249 (dk_at dksX1_puts_0 16 rfl rfl)
theorem dX1_puts_18 : decode cX1_puts 18 = .ok (.ireturn, 1) := dk_172 (dk_at dksX1_puts_0 18 rfl rfl)
theorem dX1_puts_19 : decode cX1_puts 19 = .ok (.iconst 0, 1) := dk_3 (dk_at dksX1_puts_0 19 rfl rfl)
theorem dX1_puts_20 : decode cX1_puts 20 = .ok (.ireturn, 1) := dk_172 (dk_at dksX1_puts_0 20 rfl rfl)
abbrev cX1_put : ByteArray := prog_7_method_6_code
def yX1_put : MethodName := ⟨RX1, "put", "(IJ)V"⟩
def dkwX1_put_2 : List UInt8 := [25, 4, 27, 32, 136, 147, 86, 167, 0, 9, 42, 27, 32, 182, 0, 33, 177]
abbrev dktX1_put_2 : List UInt8 := dkwX1_put_2 ++ []
def dkwX1_put_1 : List UInt8 := [145, 84, 167, 0, 38, 42, 180, 0, 9, 193, 0, 19, 153, 0, 22, 42, 180, 0, 9, 192, 0, 19, 58, 4]
abbrev dktX1_put_1 : List UInt8 := dkwX1_put_1 ++ dktX1_put_2
def dkwX1_put_0 : List UInt8 := [42, 180, 0, 9, 193, 0, 17, 153, 0, 22, 42, 180, 0, 9, 192, 0, 17, 58, 4, 25, 4, 27, 32, 136]
abbrev dktX1_put_0 : List UInt8 := dkwX1_put_0 ++ dktX1_put_1
theorem dksX1_put_0 : cX1_put.data.toList.drop 0 = dktX1_put_0 := by decide +kernel
theorem dksX1_put_1 : cX1_put.data.toList.drop 24 = dktX1_put_1 := dk_seg dksX1_put_0 24 rfl rfl
theorem dksX1_put_2 : cX1_put.data.toList.drop 48 = dktX1_put_2 := dk_seg dksX1_put_1 24 rfl rfl
theorem dX1_put_0 : decode cX1_put 0 = .ok (.aload_n 0, 1) := dk_42 (dk_at dksX1_put_0 0 rfl rfl)
theorem dX1_put_1 : decode cX1_put 1 = .ok (.getfield 9, 3) := dk_180 0 9 (dk_at dksX1_put_0 1 rfl rfl)
theorem dX1_put_4 : decode cX1_put 4 = .ok (.instanceof 17, 3) := dk_193 0 17 (dk_at dksX1_put_0 4 rfl rfl)
theorem dX1_put_7 : decode cX1_put 7 = .ok (.ifCond .eq 22, 3) := dk_153 0 22 (dk_at dksX1_put_0 7 rfl rfl)
theorem dX1_put_10 : decode cX1_put 10 = .ok (.aload_n 0, 1) := dk_42 (dk_at dksX1_put_0 10 rfl rfl)
theorem dX1_put_11 : decode cX1_put 11 = .ok (.getfield 9, 3) := dk_180 0 9 (dk_at dksX1_put_0 11 rfl rfl)
theorem dX1_put_14 : decode cX1_put 14 = .ok (.checkcast 17, 3) := dk_192 0 17 (dk_at dksX1_put_0 14 rfl rfl)
theorem dX1_put_17 : decode cX1_put 17 = .ok (.astore 4, 2) := dk_58 4 (dk_at dksX1_put_0 17 rfl rfl)
theorem dX1_put_19 : decode cX1_put 19 = .ok (.aload 4, 2) := dk_25 4 (dk_at dksX1_put_0 19 rfl rfl)
theorem dX1_put_21 : decode cX1_put 21 = .ok (.iload_n 1, 1) := dk_27 (dk_at dksX1_put_0 21 rfl rfl)
theorem dX1_put_22 : decode cX1_put 22 = .ok (.lload_n 2, 1) := dk_32 (dk_at dksX1_put_0 22 rfl rfl)
theorem dX1_put_23 : decode cX1_put 23 = .ok (.l2i, 1) := dk_136 (dk_at dksX1_put_0 23 rfl rfl)
theorem dX1_put_24 : decode cX1_put 24 = .ok (.i2b, 1) := dk_145 (dk_at dksX1_put_1 0 rfl rfl)
theorem dX1_put_25 : decode cX1_put 25 = .ok (.bastore, 1) := dk_84 (dk_at dksX1_put_1 1 rfl rfl)
theorem dX1_put_26 : decode cX1_put 26 = .ok (.goto 38, 3) := dk_167 0 38 (dk_at dksX1_put_1 2 rfl rfl)
theorem dX1_put_29 : decode cX1_put 29 = .ok (.aload_n 0, 1) := dk_42 (dk_at dksX1_put_1 5 rfl rfl)
theorem dX1_put_30 : decode cX1_put 30 = .ok (.getfield 9, 3) := dk_180 0 9 (dk_at dksX1_put_1 6 rfl rfl)
theorem dX1_put_33 : decode cX1_put 33 = .ok (.instanceof 19, 3) := dk_193 0 19 (dk_at dksX1_put_1 9 rfl rfl)
theorem dX1_put_36 : decode cX1_put 36 = .ok (.ifCond .eq 22, 3) := dk_153 0 22 (dk_at dksX1_put_1 12 rfl rfl)
theorem dX1_put_39 : decode cX1_put 39 = .ok (.aload_n 0, 1) := dk_42 (dk_at dksX1_put_1 15 rfl rfl)
theorem dX1_put_40 : decode cX1_put 40 = .ok (.getfield 9, 3) := dk_180 0 9 (dk_at dksX1_put_1 16 rfl rfl)
theorem dX1_put_43 : decode cX1_put 43 = .ok (.checkcast 19, 3) := dk_192 0 19 (dk_at dksX1_put_1 19 rfl rfl)
theorem dX1_put_46 : decode cX1_put 46 = .ok (.astore 4, 2) := dk_58 4 (dk_at dksX1_put_1 22 rfl rfl)
theorem dX1_put_48 : decode cX1_put 48 = .ok (.aload 4, 2) := dk_25 4 (dk_at dksX1_put_2 0 rfl rfl)
theorem dX1_put_50 : decode cX1_put 50 = .ok (.iload_n 1, 1) := dk_27 (dk_at dksX1_put_2 2 rfl rfl)
theorem dX1_put_51 : decode cX1_put 51 = .ok (.lload_n 2, 1) := dk_32 (dk_at dksX1_put_2 3 rfl rfl)
theorem dX1_put_52 : decode cX1_put 52 = .ok (.l2i, 1) := dk_136 (dk_at dksX1_put_2 4 rfl rfl)
theorem dX1_put_53 : decode cX1_put 53 = .ok (.i2s, 1) := dk_147 (dk_at dksX1_put_2 5 rfl rfl)
theorem dX1_put_54 : decode cX1_put 54 = .ok (.sastore, 1) := dk_86 (dk_at dksX1_put_2 6 rfl rfl)
theorem dX1_put_55 : decode cX1_put 55 = .ok (.goto 9, 3) := dk_167 0 9 (dk_at dksX1_put_2 7 rfl rfl)
theorem dX1_put_58 : decode cX1_put 58 = .ok (.aload_n 0, 1) := dk_42 (dk_at dksX1_put_2 10 rfl rfl)
theorem dX1_put_59 : decode cX1_put 59 = .ok (.iload_n 1, 1) := dk_27 (dk_at dksX1_put_2 11 rfl rfl)
theorem dX1_put_60 : decode cX1_put 60 = .ok (.lload_n 2, 1) := dk_32 (dk_at dksX1_put_2 12 rfl rfl)
theorem dX1_put_61 : decode cX1_put 61 = .ok (.invokevirtual 33, 3) := dk_182 0 33 (dk_at dksX1_put_2 13 rfl rfl)
theorem dX1_put_64 : decode cX1_put 64 = .ok (.return_, 1) := dk_177 (dk_at dksX1_put_2 16 rfl rfl)
abbrev cX1_putWider : ByteArray := prog_7_method_7_code
def yX1_putWider : MethodName := ⟨RX1, "putWider", "(IJ)V"⟩
def dkwX1_putWider_1 : List UInt8 := [192, 0, 23, 58, 5, 25, 5, 27, 32, 80, 177]
abbrev dktX1_putWider_1 : List UInt8 := dkwX1_putWider_1 ++ []
def dkwX1_putWider_0 : List UInt8 := [42, 180, 0, 9, 192, 0, 21, 58, 4, 25, 4, 27, 32, 136, 79, 167, 0, 19, 58, 4, 42, 180, 0, 9]
abbrev dktX1_putWider_0 : List UInt8 := dkwX1_putWider_0 ++ dktX1_putWider_1
theorem dksX1_putWider_0 : cX1_putWider.data.toList.drop 0 = dktX1_putWider_0 := by decide +kernel
theorem dksX1_putWider_1 : cX1_putWider.data.toList.drop 24 = dktX1_putWider_1 := dk_seg dksX1_putWider_0 24 rfl rfl
theorem dX1_putWider_0 : decode cX1_putWider 0 = .ok (.aload_n 0, 1) := dk_42 (dk_at dksX1_putWider_0 0 rfl rfl)
theorem dX1_putWider_1 : decode cX1_putWider 1 = .ok (.getfield 9, 3) := dk_180 0 9 (dk_at dksX1_putWider_0 1 rfl rfl)
theorem dX1_putWider_4 : decode cX1_putWider 4 = .ok (.checkcast 21, 3) := dk_192 0 21 (dk_at dksX1_putWider_0 4 rfl rfl)
theorem dX1_putWider_7 : decode cX1_putWider 7 = .ok (.astore 4, 2) := dk_58 4 (dk_at dksX1_putWider_0 7 rfl rfl)
theorem dX1_putWider_9 : decode cX1_putWider 9 = .ok (.aload 4, 2) := dk_25 4 (dk_at dksX1_putWider_0 9 rfl rfl)
theorem dX1_putWider_11 : decode cX1_putWider 11 = .ok (.iload_n 1, 1) := dk_27 (dk_at dksX1_putWider_0 11 rfl rfl)
theorem dX1_putWider_12 : decode cX1_putWider 12 = .ok (.lload_n 2, 1) := dk_32 (dk_at dksX1_putWider_0 12 rfl rfl)
theorem dX1_putWider_13 : decode cX1_putWider 13 = .ok (.l2i, 1) := dk_136 (dk_at dksX1_putWider_0 13 rfl rfl)
theorem dX1_putWider_14 : decode cX1_putWider 14 = .ok (.iastore, 1) := dk_79 (dk_at dksX1_putWider_0 14 rfl rfl)
theorem dX1_putWider_15 : decode cX1_putWider 15 = .ok (.goto 19, 3) := dk_167 0 19 (dk_at dksX1_putWider_0 15 rfl rfl)
theorem dX1_putWider_18 : decode cX1_putWider 18 = .ok (.astore 4, 2) := dk_58 4 (dk_at dksX1_putWider_0 18 rfl rfl)
theorem dX1_putWider_20 : decode cX1_putWider 20 = .ok (.aload_n 0, 1) := dk_42 (dk_at dksX1_putWider_0 20 rfl rfl)
theorem dX1_putWider_21 : decode cX1_putWider 21 = .ok (.getfield 9, 3) := dk_180 0 9 (dk_at dksX1_putWider_0 21 rfl rfl)
theorem dX1_putWider_24 : decode cX1_putWider 24 = .ok (.checkcast 23, 3) := dk_192 0 23 (dk_at dksX1_putWider_1 0 rfl rfl)
theorem dX1_putWider_27 : decode cX1_putWider 27 = .ok (.astore 5, 2) := dk_58 5 (dk_at dksX1_putWider_1 3 rfl rfl)
theorem dX1_putWider_29 : decode cX1_putWider 29 = .ok (.aload 5, 2) := dk_25 5 (dk_at dksX1_putWider_1 5 rfl rfl)
theorem dX1_putWider_31 : decode cX1_putWider 31 = .ok (.iload_n 1, 1) := dk_27 (dk_at dksX1_putWider_1 7 rfl rfl)
theorem dX1_putWider_32 : decode cX1_putWider 32 = .ok (.lload_n 2, 1) := dk_32 (dk_at dksX1_putWider_1 8 rfl rfl)
theorem dX1_putWider_33 : decode cX1_putWider 33 = .ok (.lastore, 1) := dk_80 (dk_at dksX1_putWider_1 9 rfl rfl)
theorem dX1_putWider_34 : decode cX1_putWider 34 = .ok (.return_, 1) := dk_177 (dk_at dksX1_putWider_1 10 rfl rfl)
abbrev cX1_pastes : ByteArray := prog_7_method_9_code
def yX1_pastes : MethodName := ⟨RX1, "pastes", "(ILWidowRoads$Slot;II)I"⟩
def dkwX1_pastes_2 : List UInt8 := [167, 0, 8, 58, 5, 16, 249, 172, 3, 172]
abbrev dktX1_pastes_2 : List UInt8 := dkwX1_pastes_2 ++ []
def dkwX1_pastes_1 : List UInt8 := [182, 0, 38, 159, 0, 6, 16, 248, 172, 42, 180, 0, 9, 27, 44, 180, 0, 9, 29, 21, 4, 184, 0, 42]
abbrev dktX1_pastes_1 : List UInt8 := dkwX1_pastes_1 ++ dktX1_pastes_2
def dkwX1_pastes_0 : List UInt8 := [42, 180, 0, 9, 198, 0, 10, 44, 180, 0, 9, 199, 0, 6, 16, 250, 172, 42, 182, 0, 38, 44]
abbrev dktX1_pastes_0 : List UInt8 := dkwX1_pastes_0 ++ dktX1_pastes_1
theorem dksX1_pastes_0 : cX1_pastes.data.toList.drop 0 = dktX1_pastes_0 := by decide +kernel
theorem dksX1_pastes_1 : cX1_pastes.data.toList.drop 22 = dktX1_pastes_1 := dk_seg dksX1_pastes_0 22 rfl rfl
theorem dksX1_pastes_2 : cX1_pastes.data.toList.drop 46 = dktX1_pastes_2 := dk_seg dksX1_pastes_1 24 rfl rfl
theorem dX1_pastes_0 : decode cX1_pastes 0 = .ok (.aload_n 0, 1) := dk_42 (dk_at dksX1_pastes_0 0 rfl rfl)
theorem dX1_pastes_1 : decode cX1_pastes 1 = .ok (.getfield 9, 3) := dk_180 0 9 (dk_at dksX1_pastes_0 1 rfl rfl)
theorem dX1_pastes_4 : decode cX1_pastes 4 = .ok (.ifnull 10, 3) := dk_198 0 10 (dk_at dksX1_pastes_0 4 rfl rfl)
theorem dX1_pastes_7 : decode cX1_pastes 7 = .ok (.aload_n 2, 1) := dk_44 (dk_at dksX1_pastes_0 7 rfl rfl)
theorem dX1_pastes_8 : decode cX1_pastes 8 = .ok (.getfield 9, 3) := dk_180 0 9 (dk_at dksX1_pastes_0 8 rfl rfl)
theorem dX1_pastes_11 : decode cX1_pastes 11 = .ok (.ifnonnull 6, 3) := dk_199 0 6 (dk_at dksX1_pastes_0 11 rfl rfl)
theorem dX1_pastes_14 : decode cX1_pastes 14 = .ok (.bipush (-6), 2) := dk_16 250 (dk_at dksX1_pastes_0 14 rfl rfl)
theorem dX1_pastes_16 : decode cX1_pastes 16 = .ok (.ireturn, 1) := dk_172 (dk_at dksX1_pastes_0 16 rfl rfl)
theorem dX1_pastes_17 : decode cX1_pastes 17 = .ok (.aload_n 0, 1) := dk_42 (dk_at dksX1_pastes_0 17 rfl rfl)
theorem dX1_pastes_18 : decode cX1_pastes 18 = .ok (.invokevirtual 38, 3) := dk_182 0 38 (dk_at dksX1_pastes_0 18 rfl rfl)
theorem dX1_pastes_21 : decode cX1_pastes 21 = .ok (.aload_n 2, 1) := dk_44 (dk_at dksX1_pastes_0 21 rfl rfl)
theorem dX1_pastes_22 : decode cX1_pastes 22 = .ok (.invokevirtual 38, 3) := dk_182 0 38 (dk_at dksX1_pastes_1 0 rfl rfl)
theorem dX1_pastes_25 : decode cX1_pastes 25 = .ok (.if_icmp .eq 6, 3) := dk_159 0 6 (dk_at dksX1_pastes_1 3 rfl rfl)
theorem dX1_pastes_28 : decode cX1_pastes 28 = .ok (.bipush (-8), 2) := dk_16 248 (dk_at dksX1_pastes_1 6 rfl rfl)
theorem dX1_pastes_30 : decode cX1_pastes 30 = .ok (.ireturn, 1) := dk_172 (dk_at dksX1_pastes_1 8 rfl rfl)
theorem dX1_pastes_31 : decode cX1_pastes 31 = .ok (.aload_n 0, 1) := dk_42 (dk_at dksX1_pastes_1 9 rfl rfl)
theorem dX1_pastes_32 : decode cX1_pastes 32 = .ok (.getfield 9, 3) := dk_180 0 9 (dk_at dksX1_pastes_1 10 rfl rfl)
theorem dX1_pastes_35 : decode cX1_pastes 35 = .ok (.iload_n 1, 1) := dk_27 (dk_at dksX1_pastes_1 13 rfl rfl)
theorem dX1_pastes_36 : decode cX1_pastes 36 = .ok (.aload_n 2, 1) := dk_44 (dk_at dksX1_pastes_1 14 rfl rfl)
theorem dX1_pastes_37 : decode cX1_pastes 37 = .ok (.getfield 9, 3) := dk_180 0 9 (dk_at dksX1_pastes_1 15 rfl rfl)
theorem dX1_pastes_40 : decode cX1_pastes 40 = .ok (.iload_n 3, 1) := dk_29 (dk_at dksX1_pastes_1 18 rfl rfl)
theorem dX1_pastes_41 : decode cX1_pastes 41 = .ok (.iload 4, 2) := dk_21 4 (dk_at dksX1_pastes_1 19 rfl rfl)
theorem dX1_pastes_43 : decode cX1_pastes 43 = .ok (.invokestatic 42, 3) := dk_184 0 42 (dk_at dksX1_pastes_1 21 rfl rfl)
theorem dX1_pastes_46 : decode cX1_pastes 46 = .ok (.goto 8, 3) := dk_167 0 8 (dk_at dksX1_pastes_2 0 rfl rfl)
theorem dX1_pastes_49 : decode cX1_pastes 49 = .ok (.astore 5, 2) := dk_58 5 (dk_at dksX1_pastes_2 3 rfl rfl)
theorem dX1_pastes_51 : decode cX1_pastes 51 = .ok (.bipush (-7), 2) := dk_16 249 (dk_at dksX1_pastes_2 5 rfl rfl)
theorem dX1_pastes_53 : decode cX1_pastes 53 = .ok (.ireturn, 1) := dk_172 (dk_at dksX1_pastes_2 7 rfl rfl)
theorem dX1_pastes_54 : decode cX1_pastes 54 = .ok (.iconst 0, 1) := dk_3 (dk_at dksX1_pastes_2 8 rfl rfl)
theorem dX1_pastes_55 : decode cX1_pastes 55 = .ok (.ireturn, 1) := dk_172 (dk_at dksX1_pastes_2 9 rfl rfl)
abbrev cX1_width : ByteArray := prog_7_method_8_code
def yX1_width : MethodName := ⟨RX1, "width", "()I"⟩
def dkwX1_width_1 : List UInt8 := [4, 167, 0, 18, 42, 180, 0, 9, 193, 0, 21, 153, 0, 7, 5, 167, 0, 4, 6, 172]
abbrev dktX1_width_1 : List UInt8 := dkwX1_width_1 ++ []
def dkwX1_width_0 : List UInt8 := [42, 180, 0, 9, 193, 0, 17, 153, 0, 7, 3, 167, 0, 32, 42, 180, 0, 9, 193, 0, 19, 153, 0, 7]
abbrev dktX1_width_0 : List UInt8 := dkwX1_width_0 ++ dktX1_width_1
theorem dksX1_width_0 : cX1_width.data.toList.drop 0 = dktX1_width_0 := by decide +kernel
theorem dksX1_width_1 : cX1_width.data.toList.drop 24 = dktX1_width_1 := dk_seg dksX1_width_0 24 rfl rfl
theorem dX1_width_0 : decode cX1_width 0 = .ok (.aload_n 0, 1) := dk_42 (dk_at dksX1_width_0 0 rfl rfl)
theorem dX1_width_1 : decode cX1_width 1 = .ok (.getfield 9, 3) := dk_180 0 9 (dk_at dksX1_width_0 1 rfl rfl)
theorem dX1_width_4 : decode cX1_width 4 = .ok (.instanceof 17, 3) := dk_193 0 17 (dk_at dksX1_width_0 4 rfl rfl)
theorem dX1_width_7 : decode cX1_width 7 = .ok (.ifCond .eq 7, 3) := dk_153 0 7 (dk_at dksX1_width_0 7 rfl rfl)
theorem dX1_width_10 : decode cX1_width 10 = .ok (.iconst 0, 1) := dk_3 (dk_at dksX1_width_0 10 rfl rfl)
theorem dX1_width_11 : decode cX1_width 11 = .ok (.goto 32, 3) := dk_167 0 32 (dk_at dksX1_width_0 11 rfl rfl)
theorem dX1_width_14 : decode cX1_width 14 = .ok (.aload_n 0, 1) := dk_42 (dk_at dksX1_width_0 14 rfl rfl)
theorem dX1_width_15 : decode cX1_width 15 = .ok (.getfield 9, 3) := dk_180 0 9 (dk_at dksX1_width_0 15 rfl rfl)
theorem dX1_width_18 : decode cX1_width 18 = .ok (.instanceof 19, 3) := dk_193 0 19 (dk_at dksX1_width_0 18 rfl rfl)
theorem dX1_width_21 : decode cX1_width 21 = .ok (.ifCond .eq 7, 3) := dk_153 0 7 (dk_at dksX1_width_0 21 rfl rfl)
theorem dX1_width_24 : decode cX1_width 24 = .ok (.iconst 1, 1) := dk_4 (dk_at dksX1_width_1 0 rfl rfl)
theorem dX1_width_25 : decode cX1_width 25 = .ok (.goto 18, 3) := dk_167 0 18 (dk_at dksX1_width_1 1 rfl rfl)
theorem dX1_width_28 : decode cX1_width 28 = .ok (.aload_n 0, 1) := dk_42 (dk_at dksX1_width_1 4 rfl rfl)
theorem dX1_width_29 : decode cX1_width 29 = .ok (.getfield 9, 3) := dk_180 0 9 (dk_at dksX1_width_1 5 rfl rfl)
theorem dX1_width_32 : decode cX1_width 32 = .ok (.instanceof 21, 3) := dk_193 0 21 (dk_at dksX1_width_1 8 rfl rfl)
theorem dX1_width_35 : decode cX1_width 35 = .ok (.ifCond .eq 7, 3) := dk_153 0 7 (dk_at dksX1_width_1 11 rfl rfl)
theorem dX1_width_38 : decode cX1_width 38 = .ok (.iconst 2, 1) := dk_5 (dk_at dksX1_width_1 14 rfl rfl)
theorem dX1_width_39 : decode cX1_width 39 = .ok (.goto 4, 3) := dk_167 0 4 (dk_at dksX1_width_1 15 rfl rfl)
theorem dX1_width_42 : decode cX1_width 42 = .ok (.iconst 3, 1) := dk_6 (dk_at dksX1_width_1 18 rfl rfl)
theorem dX1_width_43 : decode cX1_width 43 = .ok (.ireturn, 1) := dk_172 (dk_at dksX1_width_1 19 rfl rfl)
abbrev cX1_init : ByteArray := prog_7_method_1_code
def yX1_init : MethodName := ⟨RX1, "<init>", "()V"⟩
theorem dX1_init_0 : decode cX1_init 0 = .ok (.aload_n 0, 1) := by decide +kernel
theorem dX1_init_1 : decode cX1_init 1 = .ok (.invokespecial 3, 3) := by decide +kernel
theorem dX1_init_4 : decode cX1_init 4 = .ok (.return_, 1) := by decide +kernel
abbrev cX1_many : ByteArray := prog_7_method_3_code
def yX1_many : MethodName := ⟨RX1, "many", "()I"⟩
def dkwX1_many_2 : List UInt8 := [153, 0, 14, 42, 180, 0, 9, 192, 0, 21, 190, 167, 0, 11, 42, 180, 0, 9, 192, 0, 23, 190, 172]
abbrev dktX1_many_2 : List UInt8 := dkwX1_many_2 ++ []
def dkwX1_many_1 : List UInt8 := [193, 0, 19, 153, 0, 12, 42, 180, 0, 9, 192, 0, 19, 190, 172, 42, 180, 0, 9, 193, 0, 21]
abbrev dktX1_many_1 : List UInt8 := dkwX1_many_1 ++ dktX1_many_2
def dkwX1_many_0 : List UInt8 := [42, 180, 0, 9, 193, 0, 17, 153, 0, 12, 42, 180, 0, 9, 192, 0, 17, 190, 172, 42, 180, 0, 9]
abbrev dktX1_many_0 : List UInt8 := dkwX1_many_0 ++ dktX1_many_1
theorem dksX1_many_0 : cX1_many.data.toList.drop 0 = dktX1_many_0 := by decide +kernel
theorem dksX1_many_1 : cX1_many.data.toList.drop 23 = dktX1_many_1 := dk_seg dksX1_many_0 23 rfl rfl
theorem dksX1_many_2 : cX1_many.data.toList.drop 45 = dktX1_many_2 := dk_seg dksX1_many_1 22 rfl rfl
theorem dX1_many_0 : decode cX1_many 0 = .ok (.aload_n 0, 1) := dk_42 (dk_at dksX1_many_0 0 rfl rfl)
theorem dX1_many_1 : decode cX1_many 1 = .ok (.getfield 9, 3) := dk_180 0 9 (dk_at dksX1_many_0 1 rfl rfl)
theorem dX1_many_4 : decode cX1_many 4 = .ok (.instanceof 17, 3) := dk_193 0 17 (dk_at dksX1_many_0 4 rfl rfl)
theorem dX1_many_7 : decode cX1_many 7 = .ok (.ifCond .eq 12, 3) := dk_153 0 12 (dk_at dksX1_many_0 7 rfl rfl)
theorem dX1_many_10 : decode cX1_many 10 = .ok (.aload_n 0, 1) := dk_42 (dk_at dksX1_many_0 10 rfl rfl)
theorem dX1_many_11 : decode cX1_many 11 = .ok (.getfield 9, 3) := dk_180 0 9 (dk_at dksX1_many_0 11 rfl rfl)
theorem dX1_many_14 : decode cX1_many 14 = .ok (.checkcast 17, 3) := dk_192 0 17 (dk_at dksX1_many_0 14 rfl rfl)
theorem dX1_many_17 : decode cX1_many 17 = .ok (.arraylength, 1) := dk_190 (dk_at dksX1_many_0 17 rfl rfl)
theorem dX1_many_18 : decode cX1_many 18 = .ok (.ireturn, 1) := dk_172 (dk_at dksX1_many_0 18 rfl rfl)
theorem dX1_many_19 : decode cX1_many 19 = .ok (.aload_n 0, 1) := dk_42 (dk_at dksX1_many_0 19 rfl rfl)
theorem dX1_many_20 : decode cX1_many 20 = .ok (.getfield 9, 3) := dk_180 0 9 (dk_at dksX1_many_0 20 rfl rfl)
theorem dX1_many_23 : decode cX1_many 23 = .ok (.instanceof 19, 3) := dk_193 0 19 (dk_at dksX1_many_1 0 rfl rfl)
theorem dX1_many_26 : decode cX1_many 26 = .ok (.ifCond .eq 12, 3) := dk_153 0 12 (dk_at dksX1_many_1 3 rfl rfl)
theorem dX1_many_29 : decode cX1_many 29 = .ok (.aload_n 0, 1) := dk_42 (dk_at dksX1_many_1 6 rfl rfl)
theorem dX1_many_30 : decode cX1_many 30 = .ok (.getfield 9, 3) := dk_180 0 9 (dk_at dksX1_many_1 7 rfl rfl)
theorem dX1_many_33 : decode cX1_many 33 = .ok (.checkcast 19, 3) := dk_192 0 19 (dk_at dksX1_many_1 10 rfl rfl)
theorem dX1_many_36 : decode cX1_many 36 = .ok (.arraylength, 1) := dk_190 (dk_at dksX1_many_1 13 rfl rfl)
theorem dX1_many_37 : decode cX1_many 37 = .ok (.ireturn, 1) := dk_172 (dk_at dksX1_many_1 14 rfl rfl)
theorem dX1_many_38 : decode cX1_many 38 = .ok (.aload_n 0, 1) := dk_42 (dk_at dksX1_many_1 15 rfl rfl)
theorem dX1_many_39 : decode cX1_many 39 = .ok (.getfield 9, 3) := dk_180 0 9 (dk_at dksX1_many_1 16 rfl rfl)
theorem dX1_many_42 : decode cX1_many 42 = .ok (.instanceof 21, 3) := dk_193 0 21 (dk_at dksX1_many_1 19 rfl rfl)
theorem dX1_many_45 : decode cX1_many 45 = .ok (.ifCond .eq 14, 3) := dk_153 0 14 (dk_at dksX1_many_2 0 rfl rfl)
theorem dX1_many_48 : decode cX1_many 48 = .ok (.aload_n 0, 1) := dk_42 (dk_at dksX1_many_2 3 rfl rfl)
theorem dX1_many_49 : decode cX1_many 49 = .ok (.getfield 9, 3) := dk_180 0 9 (dk_at dksX1_many_2 4 rfl rfl)
theorem dX1_many_52 : decode cX1_many 52 = .ok (.checkcast 21, 3) := dk_192 0 21 (dk_at dksX1_many_2 7 rfl rfl)
theorem dX1_many_55 : decode cX1_many 55 = .ok (.arraylength, 1) := dk_190 (dk_at dksX1_many_2 10 rfl rfl)
theorem dX1_many_56 : decode cX1_many 56 = .ok (.goto 11, 3) := dk_167 0 11 (dk_at dksX1_many_2 11 rfl rfl)
theorem dX1_many_59 : decode cX1_many 59 = .ok (.aload_n 0, 1) := dk_42 (dk_at dksX1_many_2 14 rfl rfl)
theorem dX1_many_60 : decode cX1_many 60 = .ok (.getfield 9, 3) := dk_180 0 9 (dk_at dksX1_many_2 15 rfl rfl)
theorem dX1_many_63 : decode cX1_many 63 = .ok (.checkcast 23, 3) := dk_192 0 23 (dk_at dksX1_many_2 18 rfl rfl)
theorem dX1_many_66 : decode cX1_many 66 = .ok (.arraylength, 1) := dk_190 (dk_at dksX1_many_2 21 rfl rfl)
theorem dX1_many_67 : decode cX1_many 67 = .ok (.ireturn, 1) := dk_172 (dk_at dksX1_many_2 22 rfl rfl)
abbrev cX1_number : ByteArray := prog_7_method_4_code
def yX1_number : MethodName := ⟨RX1, "number", "(I)J"⟩
def dkwX1_number_3 : List UInt8 := [192, 0, 23, 27, 47, 173]
abbrev dktX1_number_3 : List UInt8 := dkwX1_number_3 ++ []
def dkwX1_number_2 : List UInt8 := [193, 0, 21, 153, 0, 16, 42, 180, 0, 9, 192, 0, 21, 27, 46, 133, 167, 0, 12, 42, 180, 0, 9]
abbrev dktX1_number_2 : List UInt8 := dkwX1_number_2 ++ dktX1_number_3
def dkwX1_number_1 : List UInt8 := [180, 0, 9, 193, 0, 19, 153, 0, 14, 42, 180, 0, 9, 192, 0, 19, 27, 53, 133, 173, 42, 180, 0, 9]
abbrev dktX1_number_1 : List UInt8 := dkwX1_number_1 ++ dktX1_number_2
def dkwX1_number_0 : List UInt8 := [42, 180, 0, 9, 193, 0, 17, 153, 0, 14, 42, 180, 0, 9, 192, 0, 17, 27, 51, 133, 173, 42]
abbrev dktX1_number_0 : List UInt8 := dkwX1_number_0 ++ dktX1_number_1
theorem dksX1_number_0 : cX1_number.data.toList.drop 0 = dktX1_number_0 := by decide +kernel
theorem dksX1_number_1 : cX1_number.data.toList.drop 22 = dktX1_number_1 := dk_seg dksX1_number_0 22 rfl rfl
theorem dksX1_number_2 : cX1_number.data.toList.drop 46 = dktX1_number_2 := dk_seg dksX1_number_1 24 rfl rfl
theorem dksX1_number_3 : cX1_number.data.toList.drop 69 = dktX1_number_3 := dk_seg dksX1_number_2 23 rfl rfl
theorem dX1_number_0 : decode cX1_number 0 = .ok (.aload_n 0, 1) := dk_42 (dk_at dksX1_number_0 0 rfl rfl)
theorem dX1_number_1 : decode cX1_number 1 = .ok (.getfield 9, 3) := dk_180 0 9 (dk_at dksX1_number_0 1 rfl rfl)
theorem dX1_number_4 : decode cX1_number 4 = .ok (.instanceof 17, 3) := dk_193 0 17 (dk_at dksX1_number_0 4 rfl rfl)
theorem dX1_number_7 : decode cX1_number 7 = .ok (.ifCond .eq 14, 3) := dk_153 0 14 (dk_at dksX1_number_0 7 rfl rfl)
theorem dX1_number_10 : decode cX1_number 10 = .ok (.aload_n 0, 1) := dk_42 (dk_at dksX1_number_0 10 rfl rfl)
theorem dX1_number_11 : decode cX1_number 11 = .ok (.getfield 9, 3) := dk_180 0 9 (dk_at dksX1_number_0 11 rfl rfl)
theorem dX1_number_14 : decode cX1_number 14 = .ok (.checkcast 17, 3) := dk_192 0 17 (dk_at dksX1_number_0 14 rfl rfl)
theorem dX1_number_17 : decode cX1_number 17 = .ok (.iload_n 1, 1) := dk_27 (dk_at dksX1_number_0 17 rfl rfl)
theorem dX1_number_18 : decode cX1_number 18 = .ok (.baload, 1) := dk_51 (dk_at dksX1_number_0 18 rfl rfl)
theorem dX1_number_19 : decode cX1_number 19 = .ok (.i2l, 1) := dk_133 (dk_at dksX1_number_0 19 rfl rfl)
theorem dX1_number_20 : decode cX1_number 20 = .ok (.lreturn, 1) := dk_173 (dk_at dksX1_number_0 20 rfl rfl)
theorem dX1_number_21 : decode cX1_number 21 = .ok (.aload_n 0, 1) := dk_42 (dk_at dksX1_number_0 21 rfl rfl)
theorem dX1_number_22 : decode cX1_number 22 = .ok (.getfield 9, 3) := dk_180 0 9 (dk_at dksX1_number_1 0 rfl rfl)
theorem dX1_number_25 : decode cX1_number 25 = .ok (.instanceof 19, 3) := dk_193 0 19 (dk_at dksX1_number_1 3 rfl rfl)
theorem dX1_number_28 : decode cX1_number 28 = .ok (.ifCond .eq 14, 3) := dk_153 0 14 (dk_at dksX1_number_1 6 rfl rfl)
theorem dX1_number_31 : decode cX1_number 31 = .ok (.aload_n 0, 1) := dk_42 (dk_at dksX1_number_1 9 rfl rfl)
theorem dX1_number_32 : decode cX1_number 32 = .ok (.getfield 9, 3) := dk_180 0 9 (dk_at dksX1_number_1 10 rfl rfl)
theorem dX1_number_35 : decode cX1_number 35 = .ok (.checkcast 19, 3) := dk_192 0 19 (dk_at dksX1_number_1 13 rfl rfl)
theorem dX1_number_38 : decode cX1_number 38 = .ok (.iload_n 1, 1) := dk_27 (dk_at dksX1_number_1 16 rfl rfl)
theorem dX1_number_39 : decode cX1_number 39 = .ok (.saload, 1) := dk_53 (dk_at dksX1_number_1 17 rfl rfl)
theorem dX1_number_40 : decode cX1_number 40 = .ok (.i2l, 1) := dk_133 (dk_at dksX1_number_1 18 rfl rfl)
theorem dX1_number_41 : decode cX1_number 41 = .ok (.lreturn, 1) := dk_173 (dk_at dksX1_number_1 19 rfl rfl)
theorem dX1_number_42 : decode cX1_number 42 = .ok (.aload_n 0, 1) := dk_42 (dk_at dksX1_number_1 20 rfl rfl)
theorem dX1_number_43 : decode cX1_number 43 = .ok (.getfield 9, 3) := dk_180 0 9 (dk_at dksX1_number_1 21 rfl rfl)
theorem dX1_number_46 : decode cX1_number 46 = .ok (.instanceof 21, 3) := dk_193 0 21 (dk_at dksX1_number_2 0 rfl rfl)
theorem dX1_number_49 : decode cX1_number 49 = .ok (.ifCond .eq 16, 3) := dk_153 0 16 (dk_at dksX1_number_2 3 rfl rfl)
theorem dX1_number_52 : decode cX1_number 52 = .ok (.aload_n 0, 1) := dk_42 (dk_at dksX1_number_2 6 rfl rfl)
theorem dX1_number_53 : decode cX1_number 53 = .ok (.getfield 9, 3) := dk_180 0 9 (dk_at dksX1_number_2 7 rfl rfl)
theorem dX1_number_56 : decode cX1_number 56 = .ok (.checkcast 21, 3) := dk_192 0 21 (dk_at dksX1_number_2 10 rfl rfl)
theorem dX1_number_59 : decode cX1_number 59 = .ok (.iload_n 1, 1) := dk_27 (dk_at dksX1_number_2 13 rfl rfl)
theorem dX1_number_60 : decode cX1_number 60 = .ok (.iaload, 1) := dk_46 (dk_at dksX1_number_2 14 rfl rfl)
theorem dX1_number_61 : decode cX1_number 61 = .ok (.i2l, 1) := dk_133 (dk_at dksX1_number_2 15 rfl rfl)
theorem dX1_number_62 : decode cX1_number 62 = .ok (.goto 12, 3) := dk_167 0 12 (dk_at dksX1_number_2 16 rfl rfl)
theorem dX1_number_65 : decode cX1_number 65 = .ok (.aload_n 0, 1) := dk_42 (dk_at dksX1_number_2 19 rfl rfl)
theorem dX1_number_66 : decode cX1_number 66 = .ok (.getfield 9, 3) := dk_180 0 9 (dk_at dksX1_number_2 20 rfl rfl)
theorem dX1_number_69 : decode cX1_number 69 = .ok (.checkcast 23, 3) := dk_192 0 23 (dk_at dksX1_number_3 0 rfl rfl)
theorem dX1_number_72 : decode cX1_number 72 = .ok (.iload_n 1, 1) := dk_27 (dk_at dksX1_number_3 3 rfl rfl)
theorem dX1_number_73 : decode cX1_number 73 = .ok (.laload, 1) := dk_47 (dk_at dksX1_number_3 4 rfl rfl)
theorem dX1_number_74 : decode cX1_number 74 = .ok (.lreturn, 1) := dk_173 (dk_at dksX1_number_3 5 rfl rfl)
theorem q142 : (Jvm.Cond.initialized "WidowRoads$Slot") ∈ lw_all := lw_g (lw_at lw_m1 2 rfl) rfl
theorem q189 : (Jvm.Cond.instanceMethod ({ cls := "WidowRoads$Slot", name := "begins", desc := "(II)Z" } : Jvm.MethodName)) ∈ lw_all := lw_g (lw_at lw_m1 49 rfl) rfl
theorem q190 : (Jvm.Cond.selects "WidowRoads$Slot" ({ cls := "WidowRoads$Slot", name := "begins", desc := "(II)Z" } : Jvm.MethodName) ({ cls := "WidowRoads$Slot", name := "begins", desc := "(II)Z" } : Jvm.MethodName)) ∈ lw_all := lw_g (lw_at lw_m1 50 rfl) rfl
theorem q191 : (Jvm.Cond.codeWith ({ cls := "WidowRoads$Slot", name := "begins", desc := "(II)Z" } : Jvm.MethodName) prog_7_method_2_code (4 : Nat) (Option.some Jvm.ClassFile.FieldType.boolean) [((0 : Nat), (65 : Nat), (68 : Nat), (15 : Nat))]) ∈ lw_all := lw_g (lw_at lw_m1 51 rfl) rfl
theorem q192 : (Jvm.Cond.classLink "WidowRoads$Slot" (15 : Nat) "java/lang/NegativeArraySizeException") ∈ lw_all := lw_g (lw_at lw_m1 52 rfl) rfl
theorem q288 : (Jvm.Cond.instanceMethod ({ cls := "WidowRoads$Slot", name := "puts", desc := "(IJ)I" } : Jvm.MethodName)) ∈ lw_all := lw_g (lw_at lw_m1 148 rfl) rfl
theorem q289 : (Jvm.Cond.selects "WidowRoads$Slot" ({ cls := "WidowRoads$Slot", name := "puts", desc := "(IJ)I" } : Jvm.MethodName) ({ cls := "WidowRoads$Slot", name := "puts", desc := "(IJ)I" } : Jvm.MethodName)) ∈ lw_all := lw_g (lw_at lw_m1 149 rfl) rfl
theorem q290 : (Jvm.Cond.codeWith ({ cls := "WidowRoads$Slot", name := "puts", desc := "(IJ)I" } : Jvm.MethodName) prog_7_method_5_code (5 : Nat) (Option.some Jvm.ClassFile.FieldType.int) [((0 : Nat), (6 : Nat), (9 : Nat), (29 : Nat)), ((0 : Nat), (6 : Nat), (14 : Nat), (31 : Nat))]) ∈ lw_all := lw_g (lw_at lw_m1 150 rfl) rfl
theorem q291 : (Jvm.Cond.classLink "WidowRoads$Slot" (29 : Nat) "java/lang/NullPointerException") ∈ lw_all := lw_g (lw_at lw_m1 151 rfl) rfl
theorem q316 : (Jvm.Cond.classLink "WidowRoads$Slot" (31 : Nat) "java/lang/ArrayIndexOutOfBoundsException") ∈ lw_all := lw_g (lw_at lw_m1 176 rfl) rfl
theorem q335 : (Jvm.Cond.methodLink "WidowRoads$Slot" (25 : Nat) ({ cls := "WidowRoads$Slot", name := "put", desc := "(IJ)V" } : Jvm.MethodName)) ∈ lw_all := lw_g (lw_at lw_m1 195 rfl) rfl
theorem q336 : (Jvm.Cond.privateMethod ({ cls := "WidowRoads$Slot", name := "put", desc := "(IJ)V" } : Jvm.MethodName)) ∈ lw_tbl := lw_at lw_m1 196 rfl
theorem q337 : (Jvm.Cond.instanceMethod ({ cls := "WidowRoads$Slot", name := "put", desc := "(IJ)V" } : Jvm.MethodName)) ∈ lw_all := lw_g (lw_at lw_m1 197 rfl) rfl
theorem q338 : (Jvm.Cond.instantiable "WidowRoads$Slot" (1 : Nat)) ∈ lw_all := lw_g (lw_at lw_m1 198 rfl) rfl
theorem q339 : (Jvm.Cond.code ({ cls := "WidowRoads$Slot", name := "put", desc := "(IJ)V" } : Jvm.MethodName) prog_7_method_6_code (5 : Nat) (Option.none : Option Jvm.ClassFile.FieldType)) ∈ lw_all := lw_g (lw_at lw_m1 199 rfl) rfl
theorem q340 : (Jvm.Cond.classLink "WidowRoads$Slot" (17 : Nat) "[B") ∈ lw_all := lw_g (lw_at lw_m1 200 rfl) rfl
theorem q341 : (Jvm.Cond.classLink "WidowRoads$Slot" (19 : Nat) "[S") ∈ lw_all := lw_g (lw_at lw_m1 201 rfl) rfl
theorem q342 : (Jvm.Cond.methodLink "WidowRoads$Slot" (33 : Nat) ({ cls := "WidowRoads$Slot", name := "putWider", desc := "(IJ)V" } : Jvm.MethodName)) ∈ lw_all := lw_g (lw_at lw_m1 202 rfl) rfl
theorem q343 : (Jvm.Cond.privateMethod ({ cls := "WidowRoads$Slot", name := "putWider", desc := "(IJ)V" } : Jvm.MethodName)) ∈ lw_tbl := lw_at lw_m1 203 rfl
theorem q344 : (Jvm.Cond.instanceMethod ({ cls := "WidowRoads$Slot", name := "putWider", desc := "(IJ)V" } : Jvm.MethodName)) ∈ lw_all := lw_g (lw_at lw_m1 204 rfl) rfl
theorem q345 : (Jvm.Cond.codeWith ({ cls := "WidowRoads$Slot", name := "putWider", desc := "(IJ)V" } : Jvm.MethodName) prog_7_method_7_code (6 : Nat) (Option.none : Option Jvm.ClassFile.FieldType) [((0 : Nat), (15 : Nat), (18 : Nat), (36 : Nat))]) ∈ lw_all := lw_g (lw_at lw_m1 205 rfl) rfl
theorem q346 : (Jvm.Cond.classLink "WidowRoads$Slot" (36 : Nat) "java/lang/ClassCastException") ∈ lw_all := lw_g (lw_at lw_m1 206 rfl) rfl
theorem q360 : (Jvm.Cond.classLink "WidowRoads$Slot" (21 : Nat) "[I") ∈ lw_all := lw_g (lw_at lw_m1 220 rfl) rfl
theorem q361 : (Jvm.Cond.classLink "WidowRoads$Slot" (23 : Nat) "[J") ∈ lw_all := lw_g (lw_at lw_m1 221 rfl) rfl
theorem q367 : (Jvm.Cond.instanceMethod ({ cls := "WidowRoads$Slot", name := "pastes", desc := "(ILWidowRoads$Slot;II)I" } : Jvm.MethodName)) ∈ lw_all := lw_g (lw_at lw_m1 227 rfl) rfl
theorem q368 : (Jvm.Cond.selects "WidowRoads$Slot" ({ cls := "WidowRoads$Slot", name := "pastes", desc := "(ILWidowRoads$Slot;II)I" } : Jvm.MethodName) ({ cls := "WidowRoads$Slot", name := "pastes", desc := "(ILWidowRoads$Slot;II)I" } : Jvm.MethodName)) ∈ lw_all := lw_g (lw_at lw_m1 228 rfl) rfl
theorem q369 : (Jvm.Cond.codeWith ({ cls := "WidowRoads$Slot", name := "pastes", desc := "(ILWidowRoads$Slot;II)I" } : Jvm.MethodName) prog_7_method_9_code (6 : Nat) (Option.some Jvm.ClassFile.FieldType.int) [((31 : Nat), (46 : Nat), (49 : Nat), (48 : Nat))]) ∈ lw_all := lw_g (lw_at lw_m1 229 rfl) rfl
theorem q370 : (Jvm.Cond.classLink "WidowRoads$Slot" (48 : Nat) "java/lang/IndexOutOfBoundsException") ∈ lw_all := lw_g (lw_at lw_m1 230 rfl) rfl
theorem q371 : (Jvm.Cond.methodLink "WidowRoads$Slot" (38 : Nat) ({ cls := "WidowRoads$Slot", name := "width", desc := "()I" } : Jvm.MethodName)) ∈ lw_all := lw_g (lw_at lw_m1 231 rfl) rfl
theorem q372 : (Jvm.Cond.privateMethod ({ cls := "WidowRoads$Slot", name := "width", desc := "()I" } : Jvm.MethodName)) ∈ lw_tbl := lw_at lw_m1 232 rfl
theorem q373 : (Jvm.Cond.instanceMethod ({ cls := "WidowRoads$Slot", name := "width", desc := "()I" } : Jvm.MethodName)) ∈ lw_all := lw_g (lw_at lw_m1 233 rfl) rfl
theorem q374 : (Jvm.Cond.code ({ cls := "WidowRoads$Slot", name := "width", desc := "()I" } : Jvm.MethodName) prog_7_method_8_code (1 : Nat) (Option.some Jvm.ClassFile.FieldType.int)) ∈ lw_all := lw_g (lw_at lw_m1 234 rfl) rfl
theorem q375 : (Jvm.Cond.methodLink "WidowRoads$Slot" (42 : Nat) ({ cls := "java/lang/System", name := "arraycopy", desc := "(Ljava/lang/Object;ILjava/lang/Object;II)V" } : Jvm.MethodName)) ∈ lw_all := lw_g (lw_at lw_m1 235 rfl) rfl
theorem q387 : (Jvm.Cond.instanceMethod ({ cls := "WidowRoads$Slot", name := "<init>", desc := "()V" } : Jvm.MethodName)) ∈ lw_all := lw_g (lw_at lw_m2 7 rfl) rfl
theorem q388 : (Jvm.Cond.code ({ cls := "WidowRoads$Slot", name := "<init>", desc := "()V" } : Jvm.MethodName) prog_7_method_1_code (1 : Nat) (Option.none : Option Jvm.ClassFile.FieldType)) ∈ lw_all := lw_g (lw_at lw_m2 8 rfl) rfl
theorem q389 : (Jvm.Cond.methodLink "WidowRoads$Slot" (3 : Nat) ({ cls := "java/lang/Object", name := "<init>", desc := "()V" } : Jvm.MethodName)) ∈ lw_all := lw_g (lw_at lw_m2 9 rfl) rfl
theorem q390 : (Jvm.Cond.fieldLink "WidowRoads$Slot" (9 : Nat) "WidowRoads$Slot" "held" "Ljava/lang/Object;") ∈ lw_all := lw_g (lw_at lw_m2 10 rfl) rfl
theorem q392 : (Jvm.Cond.lays "WidowRoads$Slot" "WidowRoads$Slot" "held" "Ljava/lang/Object;") ∈ lw_all := lw_g (lw_at lw_m2 12 rfl) rfl
theorem q393 : (Jvm.Cond.soleField "WidowRoads$Slot" "held") ∈ lw_all := lw_g (lw_at lw_m2 13 rfl) rfl
theorem q394 : (Jvm.Cond.superclass "WidowRoads$Slot" "java/lang/Object") ∈ lw_all := lw_g (lw_at lw_m2 14 rfl) rfl
theorem q890 : (Jvm.Cond.selects "WidowRoads$Slot" ({ cls := "java/lang/Object", name := "equals", desc := "(Ljava/lang/Object;)Z" } : Jvm.MethodName) ({ cls := "java/lang/Object", name := "equals", desc := "(Ljava/lang/Object;)Z" } : Jvm.MethodName)) ∈ lw_all := lw_g (lw_at lw_m4 30 rfl) rfl
theorem q957 : (Jvm.Cond.selects "WidowRoads$Slot" ({ cls := "java/lang/Object", name := "getClass", desc := "()Ljava/lang/Class;" } : Jvm.MethodName) ({ cls := "java/lang/Object", name := "getClass", desc := "()Ljava/lang/Class;" } : Jvm.MethodName)) ∈ lw_all := lw_g (lw_at lw_m4 97 rfl) rfl
theorem q1506 : (Jvm.Cond.instanceMethod ({ cls := "WidowRoads$Slot", name := "many", desc := "()I" } : Jvm.MethodName)) ∈ lw_all := lw_g (lw_at lw_m6 166 rfl) rfl
theorem q1507 : (Jvm.Cond.selects "WidowRoads$Slot" ({ cls := "WidowRoads$Slot", name := "many", desc := "()I" } : Jvm.MethodName) ({ cls := "WidowRoads$Slot", name := "many", desc := "()I" } : Jvm.MethodName)) ∈ lw_all := lw_g (lw_at lw_m6 167 rfl) rfl
theorem q1508 : (Jvm.Cond.code ({ cls := "WidowRoads$Slot", name := "many", desc := "()I" } : Jvm.MethodName) prog_7_method_3_code (1 : Nat) (Option.some Jvm.ClassFile.FieldType.int)) ∈ lw_all := lw_g (lw_at lw_m6 168 rfl) rfl
theorem q1510 : (Jvm.Cond.instanceMethod ({ cls := "WidowRoads$Slot", name := "number", desc := "(I)J" } : Jvm.MethodName)) ∈ lw_all := lw_g (lw_at lw_m6 170 rfl) rfl
theorem q1511 : (Jvm.Cond.selects "WidowRoads$Slot" ({ cls := "WidowRoads$Slot", name := "number", desc := "(I)J" } : Jvm.MethodName) ({ cls := "WidowRoads$Slot", name := "number", desc := "(I)J" } : Jvm.MethodName)) ∈ lw_all := lw_g (lw_at lw_m6 171 rfl) rfl
theorem q1512 : (Jvm.Cond.code ({ cls := "WidowRoads$Slot", name := "number", desc := "(I)J" } : Jvm.MethodName) prog_7_method_4_code (2 : Nat) (Option.some Jvm.ClassFile.FieldType.long)) ∈ lw_all := lw_g (lw_at lw_m6 172 rfl) rfl
theorem q2586 : (Jvm.Cond.castable "WidowRoads$Slot" "java/lang/Object") ∈ lw_tbl := lw_at lw_m11 46 rfl
theorem in_X1 : ∀ w ∈ wsX10, w ∈ lw_all := lw_in wsX10 [392] (by decide +kernel) (by decide +kernel)
/-! WidowRoads$Colony -/
set_option maxRecDepth 100000
def RX2 : String := "WidowRoads$Colony"
def TX2 : u_T := fun k => match k with
  | 0 => ("WidowRoads$Colony", "creeks", "Ljava/util/List;", true)
  | 1 => ("WidowRoads$Colony", "houses", "Ljava/util/List;", true)
  | 2 => ("WidowRoads$Colony", "widows", "Ljava/util/List;", true)
  | 3 => ("WidowRoads$Colony", "acts", "Ljava/util/List;", true)
  | 4 => ("WidowRoads$Colony", "years", "I", false)
  | 5 => ("WidowRoads$Colony", "law", "I", false)
  | 6 => ("WidowRoads$Colony", "odds", "I", false)
  | 7 => ("WidowRoads$Colony", "wide", "I", false)
  | 8 => ("WidowRoads$Colony", "high", "I", false)
  | _ => ("WidowRoads$Colony", "lines", "I", false)
def tyX2 : Nat → FieldType := fun k => match k with
  | 0 => .object "java/util/List"
  | 1 => .object "java/util/List"
  | 2 => .object "java/util/List"
  | 3 => .object "java/util/List"
  | 4 => .int
  | 5 => .int
  | 6 => .int
  | 7 => .int
  | 8 => .int
  | _ => .int
abbrev wsX20 : List Cond := u_ws RX2 TX2 10
theorem nmX2 : ∀ a, a < 10 → ∀ b, b < 10 → a ≠ b → (TX2 a).2.1 ≠ (TX2 b).2.1 := by decide +kernel
theorem tyX2_ok : ∀ k, k < 10 → parseFieldDescriptor (TX2 k).2.2.1 = some (tyX2 k) := by decide +kernel
abbrev cX2_init : ByteArray := prog_2_method_1_code
def yX2_init : MethodName := ⟨RX2, "<init>", "()V"⟩
def dkwX2_init_2 : List UInt8 := [183, 0, 26, 181, 0, 27, 177]
abbrev dktX2_init_2 : List UInt8 := dkwX2_init_2 ++ []
def dkwX2_init_1 : List UInt8 := [183, 0, 11, 181, 0, 20, 42, 187, 0, 9, 89, 16, 7, 183, 0, 11, 181, 0, 23, 42, 187, 0, 9, 89]
abbrev dktX2_init_1 : List UInt8 := dkwX2_init_1 ++ dktX2_init_2
def dkwX2_init_0 : List UInt8 := [42, 183, 0, 3, 42, 187, 0, 9, 89, 16, 12, 183, 0, 11, 181, 0, 14, 42, 187, 0, 9, 89, 16, 6]
abbrev dktX2_init_0 : List UInt8 := dkwX2_init_0 ++ dktX2_init_1
theorem dksX2_init_0 : cX2_init.data.toList.drop 0 = dktX2_init_0 := by decide +kernel
theorem dksX2_init_1 : cX2_init.data.toList.drop 24 = dktX2_init_1 := dk_seg dksX2_init_0 24 rfl rfl
theorem dksX2_init_2 : cX2_init.data.toList.drop 48 = dktX2_init_2 := dk_seg dksX2_init_1 24 rfl rfl
theorem dX2_init_0 : decode cX2_init 0 = .ok (.aload_n 0, 1) := dk_42 (dk_at dksX2_init_0 0 rfl rfl)
theorem dX2_init_1 : decode cX2_init 1 = .ok (.invokespecial 3, 3) := dk_183 0 3 (dk_at dksX2_init_0 1 rfl rfl)
theorem dX2_init_4 : decode cX2_init 4 = .ok (.aload_n 0, 1) := dk_42 (dk_at dksX2_init_0 4 rfl rfl)
theorem dX2_init_5 : decode cX2_init 5 = .ok (.new 9, 3) := dk_187 0 9 (dk_at dksX2_init_0 5 rfl rfl)
theorem dX2_init_8 : decode cX2_init 8 = .ok (.dup, 1) := dk_89 (dk_at dksX2_init_0 8 rfl rfl)
theorem dX2_init_9 : decode cX2_init 9 = .ok (.bipush 12, 2) := dk_16 12 (dk_at dksX2_init_0 9 rfl rfl)
theorem dX2_init_11 : decode cX2_init 11 = .ok (.invokespecial 11, 3) := dk_183 0 11 (dk_at dksX2_init_0 11 rfl rfl)
theorem dX2_init_14 : decode cX2_init 14 = .ok (.putfield 14, 3) := dk_181 0 14 (dk_at dksX2_init_0 14 rfl rfl)
theorem dX2_init_17 : decode cX2_init 17 = .ok (.aload_n 0, 1) := dk_42 (dk_at dksX2_init_0 17 rfl rfl)
theorem dX2_init_18 : decode cX2_init 18 = .ok (.new 9, 3) := dk_187 0 9 (dk_at dksX2_init_0 18 rfl rfl)
theorem dX2_init_21 : decode cX2_init 21 = .ok (.dup, 1) := dk_89 (dk_at dksX2_init_0 21 rfl rfl)
theorem dX2_init_22 : decode cX2_init 22 = .ok (.bipush 6, 2) := dk_16 6 (dk_at dksX2_init_0 22 rfl rfl)
theorem dX2_init_24 : decode cX2_init 24 = .ok (.invokespecial 11, 3) := dk_183 0 11 (dk_at dksX2_init_1 0 rfl rfl)
theorem dX2_init_27 : decode cX2_init 27 = .ok (.putfield 20, 3) := dk_181 0 20 (dk_at dksX2_init_1 3 rfl rfl)
theorem dX2_init_30 : decode cX2_init 30 = .ok (.aload_n 0, 1) := dk_42 (dk_at dksX2_init_1 6 rfl rfl)
theorem dX2_init_31 : decode cX2_init 31 = .ok (.new 9, 3) := dk_187 0 9 (dk_at dksX2_init_1 7 rfl rfl)
theorem dX2_init_34 : decode cX2_init 34 = .ok (.dup, 1) := dk_89 (dk_at dksX2_init_1 10 rfl rfl)
theorem dX2_init_35 : decode cX2_init 35 = .ok (.bipush 7, 2) := dk_16 7 (dk_at dksX2_init_1 11 rfl rfl)
theorem dX2_init_37 : decode cX2_init 37 = .ok (.invokespecial 11, 3) := dk_183 0 11 (dk_at dksX2_init_1 13 rfl rfl)
theorem dX2_init_40 : decode cX2_init 40 = .ok (.putfield 23, 3) := dk_181 0 23 (dk_at dksX2_init_1 16 rfl rfl)
theorem dX2_init_43 : decode cX2_init 43 = .ok (.aload_n 0, 1) := dk_42 (dk_at dksX2_init_1 19 rfl rfl)
theorem dX2_init_44 : decode cX2_init 44 = .ok (.new 9, 3) := dk_187 0 9 (dk_at dksX2_init_1 20 rfl rfl)
theorem dX2_init_47 : decode cX2_init 47 = .ok (.dup, 1) := dk_89 (dk_at dksX2_init_1 23 rfl rfl)
theorem dX2_init_48 : decode cX2_init 48 = .ok (.invokespecial 26, 3) := dk_183 0 26 (dk_at dksX2_init_2 0 rfl rfl)
theorem dX2_init_51 : decode cX2_init 51 = .ok (.putfield 27, 3) := dk_181 0 27 (dk_at dksX2_init_2 3 rfl rfl)
theorem dX2_init_54 : decode cX2_init 54 = .ok (.return_, 1) := dk_177 (dk_at dksX2_init_2 6 rfl rfl)
abbrev cX2_is : ByteArray := prog_2_method_2_code
def yX2_is : MethodName := ⟨RX2, "is", "()Z"⟩
def dkwX2_is_0 : List UInt8 := [42, 180, 0, 30, 158, 0, 7, 4, 167, 0, 4, 3, 172]
abbrev dktX2_is_0 : List UInt8 := dkwX2_is_0 ++ []
theorem dksX2_is_0 : cX2_is.data.toList.drop 0 = dktX2_is_0 := by decide +kernel
theorem dX2_is_0 : decode cX2_is 0 = .ok (.aload_n 0, 1) := dk_42 (dk_at dksX2_is_0 0 rfl rfl)
theorem dX2_is_1 : decode cX2_is 1 = .ok (.getfield 30, 3) := dk_180 0 30 (dk_at dksX2_is_0 1 rfl rfl)
theorem dX2_is_4 : decode cX2_is 4 = .ok (.ifCond .le 7, 3) := dk_158 0 7 (dk_at dksX2_is_0 4 rfl rfl)
theorem dX2_is_7 : decode cX2_is 7 = .ok (.iconst 1, 1) := dk_4 (dk_at dksX2_is_0 7 rfl rfl)
theorem dX2_is_8 : decode cX2_is 8 = .ok (.goto 4, 3) := dk_167 0 4 (dk_at dksX2_is_0 8 rfl rfl)
theorem dX2_is_11 : decode cX2_is 11 = .ok (.iconst 0, 1) := dk_3 (dk_at dksX2_is_0 11 rfl rfl)
theorem dX2_is_12 : decode cX2_is 12 = .ok (.ireturn, 1) := dk_172 (dk_at dksX2_is_0 12 rfl rfl)
abbrev cX2_same : ByteArray := prog_2_method_3_code
def yX2_same : MethodName := ⟨RX2, "same", "()LWidowRoads$Colony;"⟩
def dkwX2_same_6 : List UInt8 := [180, 0, 30, 181, 0, 30, 43, 176]
abbrev dktX2_same_6 : List UInt8 := dkwX2_same_6 ++ []
def dkwX2_same_5 : List UInt8 := [180, 0, 71, 181, 0, 71, 43, 42, 180, 0, 74, 181, 0, 74, 43, 42, 180, 0, 77, 181, 0, 77, 43, 42]
abbrev dktX2_same_5 : List UInt8 := dkwX2_same_5 ++ dktX2_same_6
def dkwX2_same_4 : List UInt8 := [185, 0, 35, 2, 0, 87, 43, 42, 180, 0, 65, 181, 0, 65, 43, 42, 180, 0, 68, 181, 0, 68, 43, 42]
abbrev dktX2_same_4 : List UInt8 := dkwX2_same_4 ++ dktX2_same_5
def dkwX2_same_3 : List UInt8 := [182, 0, 57, 185, 0, 61, 2, 0, 87, 167, 255, 223, 43, 180, 0, 27, 42, 180, 0, 27]
abbrev dktX2_same_3 : List UInt8 := dkwX2_same_3 ++ dktX2_same_4
def dkwX2_same_2 : List UInt8 := [185, 0, 45, 1, 0, 153, 0, 30, 44, 185, 0, 51, 1, 0, 192, 0, 55, 78, 43, 180, 0, 23, 45]
abbrev dktX2_same_2 : List UInt8 := dkwX2_same_2 ++ dktX2_same_3
def dkwX2_same_1 : List UInt8 := [180, 0, 20, 42, 180, 0, 20, 185, 0, 35, 2, 0, 87, 42, 180, 0, 23, 185, 0, 41, 1, 0, 77, 44]
abbrev dktX2_same_1 : List UInt8 := dkwX2_same_1 ++ dktX2_same_2
def dkwX2_same_0 : List UInt8 := [187, 0, 15, 89, 183, 0, 34, 76, 43, 180, 0, 14, 42, 180, 0, 14, 185, 0, 35, 2, 0, 87, 43]
abbrev dktX2_same_0 : List UInt8 := dkwX2_same_0 ++ dktX2_same_1
theorem dksX2_same_0 : cX2_same.data.toList.drop 0 = dktX2_same_0 := by decide +kernel
theorem dksX2_same_1 : cX2_same.data.toList.drop 23 = dktX2_same_1 := dk_seg dksX2_same_0 23 rfl rfl
theorem dksX2_same_2 : cX2_same.data.toList.drop 47 = dktX2_same_2 := dk_seg dksX2_same_1 24 rfl rfl
theorem dksX2_same_3 : cX2_same.data.toList.drop 70 = dktX2_same_3 := dk_seg dksX2_same_2 23 rfl rfl
theorem dksX2_same_4 : cX2_same.data.toList.drop 90 = dktX2_same_4 := dk_seg dksX2_same_3 20 rfl rfl
theorem dksX2_same_5 : cX2_same.data.toList.drop 114 = dktX2_same_5 := dk_seg dksX2_same_4 24 rfl rfl
theorem dksX2_same_6 : cX2_same.data.toList.drop 138 = dktX2_same_6 := dk_seg dksX2_same_5 24 rfl rfl
theorem dX2_same_0 : decode cX2_same 0 = .ok (.new 15, 3) := dk_187 0 15 (dk_at dksX2_same_0 0 rfl rfl)
theorem dX2_same_3 : decode cX2_same 3 = .ok (.dup, 1) := dk_89 (dk_at dksX2_same_0 3 rfl rfl)
theorem dX2_same_4 : decode cX2_same 4 = .ok (.invokespecial 34, 3) := dk_183 0 34 (dk_at dksX2_same_0 4 rfl rfl)
theorem dX2_same_7 : decode cX2_same 7 = .ok (.astore_n 1, 1) := dk_76 (dk_at dksX2_same_0 7 rfl rfl)
theorem dX2_same_8 : decode cX2_same 8 = .ok (.aload_n 1, 1) := dk_43 (dk_at dksX2_same_0 8 rfl rfl)
theorem dX2_same_9 : decode cX2_same 9 = .ok (.getfield 14, 3) := dk_180 0 14 (dk_at dksX2_same_0 9 rfl rfl)
theorem dX2_same_12 : decode cX2_same 12 = .ok (.aload_n 0, 1) := dk_42 (dk_at dksX2_same_0 12 rfl rfl)
theorem dX2_same_13 : decode cX2_same 13 = .ok (.getfield 14, 3) := dk_180 0 14 (dk_at dksX2_same_0 13 rfl rfl)
theorem dX2_same_16 : decode cX2_same 16 = .ok (.invokeinterface 35 2, 5) := by decide +kernel
theorem dX2_same_21 : decode cX2_same 21 = .ok (.pop, 1) := dk_87 (dk_at dksX2_same_0 21 rfl rfl)
theorem dX2_same_22 : decode cX2_same 22 = .ok (.aload_n 1, 1) := dk_43 (dk_at dksX2_same_0 22 rfl rfl)
theorem dX2_same_23 : decode cX2_same 23 = .ok (.getfield 20, 3) := dk_180 0 20 (dk_at dksX2_same_1 0 rfl rfl)
theorem dX2_same_26 : decode cX2_same 26 = .ok (.aload_n 0, 1) := dk_42 (dk_at dksX2_same_1 3 rfl rfl)
theorem dX2_same_27 : decode cX2_same 27 = .ok (.getfield 20, 3) := dk_180 0 20 (dk_at dksX2_same_1 4 rfl rfl)
theorem dX2_same_30 : decode cX2_same 30 = .ok (.invokeinterface 35 2, 5) := by decide +kernel
theorem dX2_same_35 : decode cX2_same 35 = .ok (.pop, 1) := dk_87 (dk_at dksX2_same_1 12 rfl rfl)
theorem dX2_same_36 : decode cX2_same 36 = .ok (.aload_n 0, 1) := dk_42 (dk_at dksX2_same_1 13 rfl rfl)
theorem dX2_same_37 : decode cX2_same 37 = .ok (.getfield 23, 3) := dk_180 0 23 (dk_at dksX2_same_1 14 rfl rfl)
theorem dX2_same_40 : decode cX2_same 40 = .ok (.invokeinterface 41 1, 5) := by decide +kernel
theorem dX2_same_45 : decode cX2_same 45 = .ok (.astore_n 2, 1) := dk_77 (dk_at dksX2_same_1 22 rfl rfl)
theorem dX2_same_46 : decode cX2_same 46 = .ok (.aload_n 2, 1) := dk_44 (dk_at dksX2_same_1 23 rfl rfl)
theorem dX2_same_47 : decode cX2_same 47 = .ok (.invokeinterface 45 1, 5) := by decide +kernel
theorem dX2_same_52 : decode cX2_same 52 = .ok (.ifCond .eq 30, 3) := dk_153 0 30 (dk_at dksX2_same_2 5 rfl rfl)
theorem dX2_same_55 : decode cX2_same 55 = .ok (.aload_n 2, 1) := dk_44 (dk_at dksX2_same_2 8 rfl rfl)
theorem dX2_same_56 : decode cX2_same 56 = .ok (.invokeinterface 51 1, 5) := by decide +kernel
theorem dX2_same_61 : decode cX2_same 61 = .ok (.checkcast 55, 3) := dk_192 0 55 (dk_at dksX2_same_2 14 rfl rfl)
theorem dX2_same_64 : decode cX2_same 64 = .ok (.astore_n 3, 1) := dk_78 (dk_at dksX2_same_2 17 rfl rfl)
theorem dX2_same_65 : decode cX2_same 65 = .ok (.aload_n 1, 1) := dk_43 (dk_at dksX2_same_2 18 rfl rfl)
theorem dX2_same_66 : decode cX2_same 66 = .ok (.getfield 23, 3) := dk_180 0 23 (dk_at dksX2_same_2 19 rfl rfl)
theorem dX2_same_69 : decode cX2_same 69 = .ok (.aload_n 3, 1) := dk_45 (dk_at dksX2_same_2 22 rfl rfl)
theorem dX2_same_70 : decode cX2_same 70 = .ok (.invokevirtual 57, 3) := dk_182 0 57 (dk_at dksX2_same_3 0 rfl rfl)
theorem dX2_same_73 : decode cX2_same 73 = .ok (.invokeinterface 61 2, 5) := by decide +kernel
theorem dX2_same_78 : decode cX2_same 78 = .ok (.pop, 1) := dk_87 (dk_at dksX2_same_3 8 rfl rfl)
theorem dX2_same_79 : decode cX2_same 79 = .ok (.goto (-33), 3) := dk_167 255 223 (dk_at dksX2_same_3 9 rfl rfl)
theorem dX2_same_82 : decode cX2_same 82 = .ok (.aload_n 1, 1) := dk_43 (dk_at dksX2_same_3 12 rfl rfl)
theorem dX2_same_83 : decode cX2_same 83 = .ok (.getfield 27, 3) := dk_180 0 27 (dk_at dksX2_same_3 13 rfl rfl)
theorem dX2_same_86 : decode cX2_same 86 = .ok (.aload_n 0, 1) := dk_42 (dk_at dksX2_same_3 16 rfl rfl)
theorem dX2_same_87 : decode cX2_same 87 = .ok (.getfield 27, 3) := dk_180 0 27 (dk_at dksX2_same_3 17 rfl rfl)
theorem dX2_same_90 : decode cX2_same 90 = .ok (.invokeinterface 35 2, 5) := by decide +kernel
theorem dX2_same_95 : decode cX2_same 95 = .ok (.pop, 1) := dk_87 (dk_at dksX2_same_4 5 rfl rfl)
theorem dX2_same_96 : decode cX2_same 96 = .ok (.aload_n 1, 1) := dk_43 (dk_at dksX2_same_4 6 rfl rfl)
theorem dX2_same_97 : decode cX2_same 97 = .ok (.aload_n 0, 1) := dk_42 (dk_at dksX2_same_4 7 rfl rfl)
theorem dX2_same_98 : decode cX2_same 98 = .ok (.getfield 65, 3) := dk_180 0 65 (dk_at dksX2_same_4 8 rfl rfl)
theorem dX2_same_101 : decode cX2_same 101 = .ok (.putfield 65, 3) := dk_181 0 65 (dk_at dksX2_same_4 11 rfl rfl)
theorem dX2_same_104 : decode cX2_same 104 = .ok (.aload_n 1, 1) := dk_43 (dk_at dksX2_same_4 14 rfl rfl)
theorem dX2_same_105 : decode cX2_same 105 = .ok (.aload_n 0, 1) := dk_42 (dk_at dksX2_same_4 15 rfl rfl)
theorem dX2_same_106 : decode cX2_same 106 = .ok (.getfield 68, 3) := dk_180 0 68 (dk_at dksX2_same_4 16 rfl rfl)
theorem dX2_same_109 : decode cX2_same 109 = .ok (.putfield 68, 3) := dk_181 0 68 (dk_at dksX2_same_4 19 rfl rfl)
theorem dX2_same_112 : decode cX2_same 112 = .ok (.aload_n 1, 1) := dk_43 (dk_at dksX2_same_4 22 rfl rfl)
theorem dX2_same_113 : decode cX2_same 113 = .ok (.aload_n 0, 1) := dk_42 (dk_at dksX2_same_4 23 rfl rfl)
theorem dX2_same_114 : decode cX2_same 114 = .ok (.getfield 71, 3) := dk_180 0 71 (dk_at dksX2_same_5 0 rfl rfl)
theorem dX2_same_117 : decode cX2_same 117 = .ok (.putfield 71, 3) := dk_181 0 71 (dk_at dksX2_same_5 3 rfl rfl)
theorem dX2_same_120 : decode cX2_same 120 = .ok (.aload_n 1, 1) := dk_43 (dk_at dksX2_same_5 6 rfl rfl)
theorem dX2_same_121 : decode cX2_same 121 = .ok (.aload_n 0, 1) := dk_42 (dk_at dksX2_same_5 7 rfl rfl)
theorem dX2_same_122 : decode cX2_same 122 = .ok (.getfield 74, 3) := dk_180 0 74 (dk_at dksX2_same_5 8 rfl rfl)
theorem dX2_same_125 : decode cX2_same 125 = .ok (.putfield 74, 3) := dk_181 0 74 (dk_at dksX2_same_5 11 rfl rfl)
theorem dX2_same_128 : decode cX2_same 128 = .ok (.aload_n 1, 1) := dk_43 (dk_at dksX2_same_5 14 rfl rfl)
theorem dX2_same_129 : decode cX2_same 129 = .ok (.aload_n 0, 1) := dk_42 (dk_at dksX2_same_5 15 rfl rfl)
theorem dX2_same_130 : decode cX2_same 130 = .ok (.getfield 77, 3) := dk_180 0 77 (dk_at dksX2_same_5 16 rfl rfl)
theorem dX2_same_133 : decode cX2_same 133 = .ok (.putfield 77, 3) := dk_181 0 77 (dk_at dksX2_same_5 19 rfl rfl)
theorem dX2_same_136 : decode cX2_same 136 = .ok (.aload_n 1, 1) := dk_43 (dk_at dksX2_same_5 22 rfl rfl)
theorem dX2_same_137 : decode cX2_same 137 = .ok (.aload_n 0, 1) := dk_42 (dk_at dksX2_same_5 23 rfl rfl)
theorem dX2_same_138 : decode cX2_same 138 = .ok (.getfield 30, 3) := dk_180 0 30 (dk_at dksX2_same_6 0 rfl rfl)
theorem dX2_same_141 : decode cX2_same 141 = .ok (.putfield 30, 3) := dk_181 0 30 (dk_at dksX2_same_6 3 rfl rfl)
theorem dX2_same_144 : decode cX2_same 144 = .ok (.aload_n 1, 1) := dk_43 (dk_at dksX2_same_6 6 rfl rfl)
theorem dX2_same_145 : decode cX2_same 145 = .ok (.areturn, 1) := dk_176 (dk_at dksX2_same_6 7 rfl rfl)
theorem q143 : (Jvm.Cond.initialized "WidowRoads$Colony") ∈ lw_all := lw_g (lw_at lw_m1 3 rfl) rfl
theorem q396 : (Jvm.Cond.instantiable "WidowRoads$Colony" (10 : Nat)) ∈ lw_all := lw_g (lw_at lw_m2 16 rfl) rfl
theorem q398 : (Jvm.Cond.instanceMethod ({ cls := "WidowRoads$Colony", name := "<init>", desc := "()V" } : Jvm.MethodName)) ∈ lw_all := lw_g (lw_at lw_m2 18 rfl) rfl
theorem q399 : (Jvm.Cond.code ({ cls := "WidowRoads$Colony", name := "<init>", desc := "()V" } : Jvm.MethodName) prog_2_method_1_code (1 : Nat) (Option.none : Option Jvm.ClassFile.FieldType)) ∈ lw_all := lw_g (lw_at lw_m2 19 rfl) rfl
theorem q400 : (Jvm.Cond.methodLink "WidowRoads$Colony" (3 : Nat) ({ cls := "java/lang/Object", name := "<init>", desc := "()V" } : Jvm.MethodName)) ∈ lw_all := lw_g (lw_at lw_m2 20 rfl) rfl
theorem q401 : (Jvm.Cond.classLink "WidowRoads$Colony" (9 : Nat) "java/util/ArrayList") ∈ lw_all := lw_g (lw_at lw_m2 21 rfl) rfl
theorem q403 : (Jvm.Cond.methodLink "WidowRoads$Colony" (11 : Nat) ({ cls := "java/util/ArrayList", name := "<init>", desc := "(I)V" } : Jvm.MethodName)) ∈ lw_all := lw_g (lw_at lw_m2 23 rfl) rfl
theorem q432 : (Jvm.Cond.methodLink "WidowRoads$Colony" (26 : Nat) ({ cls := "java/util/ArrayList", name := "<init>", desc := "()V" } : Jvm.MethodName)) ∈ lw_all := lw_g (lw_at lw_m2 52 rfl) rfl
theorem q437 : (Jvm.Cond.fieldLink "WidowRoads$Colony" (14 : Nat) "WidowRoads$Colony" "creeks" "Ljava/util/List;") ∈ lw_all := lw_g (lw_at lw_m2 57 rfl) rfl
theorem q440 : (Jvm.Cond.fieldLink "WidowRoads$Colony" (20 : Nat) "WidowRoads$Colony" "houses" "Ljava/util/List;") ∈ lw_all := lw_g (lw_at lw_m2 60 rfl) rfl
theorem q444 : (Jvm.Cond.fieldLink "WidowRoads$Colony" (23 : Nat) "WidowRoads$Colony" "widows" "Ljava/util/List;") ∈ lw_all := lw_g (lw_at lw_m2 64 rfl) rfl
theorem q447 : (Jvm.Cond.fieldLink "WidowRoads$Colony" (27 : Nat) "WidowRoads$Colony" "acts" "Ljava/util/List;") ∈ lw_all := lw_g (lw_at lw_m2 67 rfl) rfl
theorem q450 : (Jvm.Cond.fieldLink "WidowRoads$Colony" (65 : Nat) "WidowRoads$Colony" "years" "I") ∈ lw_all := lw_g (lw_at lw_m2 70 rfl) rfl
theorem q455 : (Jvm.Cond.fieldLink "WidowRoads$Colony" (68 : Nat) "WidowRoads$Colony" "law" "I") ∈ lw_all := lw_g (lw_at lw_m2 75 rfl) rfl
theorem q458 : (Jvm.Cond.fieldLink "WidowRoads$Colony" (71 : Nat) "WidowRoads$Colony" "odds" "I") ∈ lw_all := lw_g (lw_at lw_m2 78 rfl) rfl
theorem q461 : (Jvm.Cond.fieldLink "WidowRoads$Colony" (74 : Nat) "WidowRoads$Colony" "wide" "I") ∈ lw_all := lw_g (lw_at lw_m2 81 rfl) rfl
theorem q465 : (Jvm.Cond.fieldLink "WidowRoads$Colony" (77 : Nat) "WidowRoads$Colony" "high" "I") ∈ lw_all := lw_g (lw_at lw_m2 85 rfl) rfl
theorem q469 : (Jvm.Cond.fieldLink "WidowRoads$Colony" (30 : Nat) "WidowRoads$Colony" "lines" "I") ∈ lw_all := lw_g (lw_at lw_m2 89 rfl) rfl
theorem q472 : (Jvm.Cond.laysFinal "WidowRoads$Colony" "WidowRoads$Colony" "creeks" "Ljava/util/List;") ∈ lw_all := lw_g (lw_at lw_m2 92 rfl) rfl
theorem q473 : (Jvm.Cond.soleField "WidowRoads$Colony" "creeks") ∈ lw_all := lw_g (lw_at lw_m2 93 rfl) rfl
theorem q474 : (Jvm.Cond.laysFinal "WidowRoads$Colony" "WidowRoads$Colony" "houses" "Ljava/util/List;") ∈ lw_all := lw_g (lw_at lw_m2 94 rfl) rfl
theorem q475 : (Jvm.Cond.soleField "WidowRoads$Colony" "houses") ∈ lw_all := lw_g (lw_at lw_m2 95 rfl) rfl
theorem q476 : (Jvm.Cond.laysFinal "WidowRoads$Colony" "WidowRoads$Colony" "widows" "Ljava/util/List;") ∈ lw_all := lw_g (lw_at lw_m2 96 rfl) rfl
theorem q477 : (Jvm.Cond.soleField "WidowRoads$Colony" "widows") ∈ lw_all := lw_g (lw_at lw_m2 97 rfl) rfl
theorem q478 : (Jvm.Cond.laysFinal "WidowRoads$Colony" "WidowRoads$Colony" "acts" "Ljava/util/List;") ∈ lw_all := lw_g (lw_at lw_m2 98 rfl) rfl
theorem q479 : (Jvm.Cond.soleField "WidowRoads$Colony" "acts") ∈ lw_all := lw_g (lw_at lw_m2 99 rfl) rfl
theorem q480 : (Jvm.Cond.lays "WidowRoads$Colony" "WidowRoads$Colony" "years" "I") ∈ lw_all := lw_g (lw_at lw_m2 100 rfl) rfl
theorem q481 : (Jvm.Cond.soleField "WidowRoads$Colony" "years") ∈ lw_all := lw_g (lw_at lw_m2 101 rfl) rfl
theorem q482 : (Jvm.Cond.lays "WidowRoads$Colony" "WidowRoads$Colony" "law" "I") ∈ lw_all := lw_g (lw_at lw_m2 102 rfl) rfl
theorem q483 : (Jvm.Cond.soleField "WidowRoads$Colony" "law") ∈ lw_all := lw_g (lw_at lw_m2 103 rfl) rfl
theorem q484 : (Jvm.Cond.lays "WidowRoads$Colony" "WidowRoads$Colony" "odds" "I") ∈ lw_all := lw_g (lw_at lw_m2 104 rfl) rfl
theorem q485 : (Jvm.Cond.soleField "WidowRoads$Colony" "odds") ∈ lw_all := lw_g (lw_at lw_m2 105 rfl) rfl
theorem q486 : (Jvm.Cond.lays "WidowRoads$Colony" "WidowRoads$Colony" "wide" "I") ∈ lw_all := lw_g (lw_at lw_m2 106 rfl) rfl
theorem q487 : (Jvm.Cond.soleField "WidowRoads$Colony" "wide") ∈ lw_all := lw_g (lw_at lw_m2 107 rfl) rfl
theorem q488 : (Jvm.Cond.lays "WidowRoads$Colony" "WidowRoads$Colony" "high" "I") ∈ lw_all := lw_g (lw_at lw_m2 108 rfl) rfl
theorem q489 : (Jvm.Cond.soleField "WidowRoads$Colony" "high") ∈ lw_all := lw_g (lw_at lw_m2 109 rfl) rfl
theorem q490 : (Jvm.Cond.lays "WidowRoads$Colony" "WidowRoads$Colony" "lines" "I") ∈ lw_all := lw_g (lw_at lw_m2 110 rfl) rfl
theorem q491 : (Jvm.Cond.soleField "WidowRoads$Colony" "lines") ∈ lw_all := lw_g (lw_at lw_m2 111 rfl) rfl
theorem q492 : (Jvm.Cond.superclass "WidowRoads$Colony" "java/lang/Object") ∈ lw_all := lw_g (lw_at lw_m2 112 rfl) rfl
theorem q885 : (Jvm.Cond.selects "WidowRoads$Colony" ({ cls := "java/lang/Object", name := "equals", desc := "(Ljava/lang/Object;)Z" } : Jvm.MethodName) ({ cls := "java/lang/Object", name := "equals", desc := "(Ljava/lang/Object;)Z" } : Jvm.MethodName)) ∈ lw_all := lw_g (lw_at lw_m4 25 rfl) rfl
theorem q952 : (Jvm.Cond.selects "WidowRoads$Colony" ({ cls := "java/lang/Object", name := "getClass", desc := "()Ljava/lang/Class;" } : Jvm.MethodName) ({ cls := "java/lang/Object", name := "getClass", desc := "()Ljava/lang/Class;" } : Jvm.MethodName)) ∈ lw_all := lw_g (lw_at lw_m4 92 rfl) rfl
theorem q1034 : (Jvm.Cond.instanceMethod ({ cls := "WidowRoads$Colony", name := "is", desc := "()Z" } : Jvm.MethodName)) ∈ lw_all := lw_g (lw_at lw_m4 174 rfl) rfl
theorem q1035 : (Jvm.Cond.selects "WidowRoads$Colony" ({ cls := "WidowRoads$Colony", name := "is", desc := "()Z" } : Jvm.MethodName) ({ cls := "WidowRoads$Colony", name := "is", desc := "()Z" } : Jvm.MethodName)) ∈ lw_all := lw_g (lw_at lw_m4 175 rfl) rfl
theorem q1036 : (Jvm.Cond.code ({ cls := "WidowRoads$Colony", name := "is", desc := "()Z" } : Jvm.MethodName) prog_2_method_2_code (1 : Nat) (Option.some Jvm.ClassFile.FieldType.boolean)) ∈ lw_all := lw_g (lw_at lw_m4 176 rfl) rfl
theorem q1736 : (Jvm.Cond.instanceMethod ({ cls := "WidowRoads$Colony", name := "same", desc := "()LWidowRoads$Colony;" } : Jvm.MethodName)) ∈ lw_all := lw_g (lw_at lw_m7 156 rfl) rfl
theorem q1737 : (Jvm.Cond.selects "WidowRoads$Colony" ({ cls := "WidowRoads$Colony", name := "same", desc := "()LWidowRoads$Colony;" } : Jvm.MethodName) ({ cls := "WidowRoads$Colony", name := "same", desc := "()LWidowRoads$Colony;" } : Jvm.MethodName)) ∈ lw_all := lw_g (lw_at lw_m7 157 rfl) rfl
theorem q1738 : (Jvm.Cond.code ({ cls := "WidowRoads$Colony", name := "same", desc := "()LWidowRoads$Colony;" } : Jvm.MethodName) prog_2_method_3_code (4 : Nat) (Option.some (Jvm.ClassFile.FieldType.object "WidowRoads$Colony"))) ∈ lw_all := lw_g (lw_at lw_m7 158 rfl) rfl
theorem q1739 : (Jvm.Cond.classLink "WidowRoads$Colony" (15 : Nat) "WidowRoads$Colony") ∈ lw_all := lw_g (lw_at lw_m7 159 rfl) rfl
theorem q1740 : (Jvm.Cond.methodLink "WidowRoads$Colony" (34 : Nat) ({ cls := "WidowRoads$Colony", name := "<init>", desc := "()V" } : Jvm.MethodName)) ∈ lw_all := lw_g (lw_at lw_m7 160 rfl) rfl
theorem q1741 : (Jvm.Cond.interfaceEntry "WidowRoads$Colony" (35 : Nat)) ∈ lw_tbl := lw_at lw_m7 161 rfl
theorem q1742 : (Jvm.Cond.methodLink "WidowRoads$Colony" (35 : Nat) ({ cls := "java/util/List", name := "addAll", desc := "(Ljava/util/Collection;)Z" } : Jvm.MethodName)) ∈ lw_all := lw_g (lw_at lw_m7 162 rfl) rfl
theorem q1760 : (Jvm.Cond.interfaceEntry "WidowRoads$Colony" (41 : Nat)) ∈ lw_tbl := lw_at lw_m7 180 rfl
theorem q1761 : (Jvm.Cond.methodLink "WidowRoads$Colony" (41 : Nat) ({ cls := "java/util/List", name := "iterator", desc := "()Ljava/util/Iterator;" } : Jvm.MethodName)) ∈ lw_all := lw_g (lw_at lw_m7 181 rfl) rfl
theorem q1762 : (Jvm.Cond.interfaceEntry "WidowRoads$Colony" (45 : Nat)) ∈ lw_tbl := lw_at lw_m7 182 rfl
theorem q1763 : (Jvm.Cond.methodLink "WidowRoads$Colony" (45 : Nat) ({ cls := "java/util/Iterator", name := "hasNext", desc := "()Z" } : Jvm.MethodName)) ∈ lw_all := lw_g (lw_at lw_m7 183 rfl) rfl
theorem q1764 : (Jvm.Cond.interfaceEntry "WidowRoads$Colony" (51 : Nat)) ∈ lw_tbl := lw_at lw_m7 184 rfl
theorem q1765 : (Jvm.Cond.methodLink "WidowRoads$Colony" (51 : Nat) ({ cls := "java/util/Iterator", name := "next", desc := "()Ljava/lang/Object;" } : Jvm.MethodName)) ∈ lw_all := lw_g (lw_at lw_m7 185 rfl) rfl
theorem q1766 : (Jvm.Cond.classLink "WidowRoads$Colony" (55 : Nat) "WidowRoads$Widow") ∈ lw_all := lw_g (lw_at lw_m7 186 rfl) rfl
theorem q1767 : (Jvm.Cond.methodLink "WidowRoads$Colony" (57 : Nat) ({ cls := "WidowRoads$Widow", name := "same", desc := "()LWidowRoads$Widow;" } : Jvm.MethodName)) ∈ lw_all := lw_g (lw_at lw_m7 187 rfl) rfl
theorem q1773 : (Jvm.Cond.interfaceEntry "WidowRoads$Colony" (61 : Nat)) ∈ lw_tbl := lw_at lw_m7 193 rfl
theorem q1774 : (Jvm.Cond.methodLink "WidowRoads$Colony" (61 : Nat) ({ cls := "java/util/List", name := "add", desc := "(Ljava/lang/Object;)Z" } : Jvm.MethodName)) ∈ lw_all := lw_g (lw_at lw_m7 194 rfl) rfl
theorem q2587 : (Jvm.Cond.castable "WidowRoads$Colony" "java/lang/Object") ∈ lw_tbl := lw_at lw_m11 47 rfl
theorem in_X2 : ∀ w ∈ wsX20, w ∈ lw_all := lw_in wsX20 [472, 474, 476, 478, 480, 482, 484, 486, 488, 490] (by decide +kernel) (by decide +kernel)
/-! WidowRoads$Walks -/
set_option maxRecDepth 100000
def RX3 : String := "WidowRoads$Walks"
def TX3 : u_T := fun k => match k with
  | 0 => ("WidowRoads$Walks", "at", "[I", true)
  | 1 => ("WidowRoads$Walks", "steps", "[I", true)
  | 2 => ("WidowRoads$Walks", "stands", "[I", true)
  | 3 => ("WidowRoads$Walks", "moves", "[I", true)
  | 4 => ("WidowRoads$Walks", "houses", "[I", true)
  | 5 => ("WidowRoads$Walks", "moved", "[I", true)
  | 6 => ("WidowRoads$Walks", "faces", "[I", true)
  | 7 => ("WidowRoads$Walks", "sole", "[I", true)
  | 8 => ("WidowRoads$Walks", "road", "[J", true)
  | 9 => ("WidowRoads$Walks", "right", "[J", true)
  | 10 => ("WidowRoads$Walks", "down", "[J", true)
  | 11 => ("WidowRoads$Walks", "been", "[J", true)
  | 12 => ("WidowRoads$Walks", "creeks", "J", false)
  | 13 => ("WidowRoads$Walks", "roads", "J", false)
  | 14 => ("WidowRoads$Walks", "rights", "J", false)
  | 15 => ("WidowRoads$Walks", "downs", "J", false)
  | 16 => ("WidowRoads$Walks", "law", "I", false)
  | 17 => ("WidowRoads$Walks", "stay", "I", false)
  | _ => ("WidowRoads$Walks", "this$0", "LWidowRoads;", true)
def tyX3 : Nat → FieldType := fun k => match k with
  | 0 => .array .int
  | 1 => .array .int
  | 2 => .array .int
  | 3 => .array .int
  | 4 => .array .int
  | 5 => .array .int
  | 6 => .array .int
  | 7 => .array .int
  | 8 => .array .long
  | 9 => .array .long
  | 10 => .array .long
  | 11 => .array .long
  | 12 => .long
  | 13 => .long
  | 14 => .long
  | 15 => .long
  | 16 => .int
  | 17 => .int
  | _ => .object "WidowRoads"
abbrev wsX30 : List Cond := u_ws RX3 TX3 19
set_option maxRecDepth 100000 in
theorem nmX3 : ∀ a, a < 19 → ∀ b, b < 19 → a ≠ b → (TX3 a).2.1 ≠ (TX3 b).2.1 := by decide +kernel
set_option maxRecDepth 100000 in
theorem tyX3_ok : ∀ k, k < 19 → parseFieldDescriptor (TX3 k).2.2.1 = some (tyX3 k) := by decide +kernel
abbrev cX3_init : ByteArray := prog_8_method_1_code
def yX3_init : MethodName := ⟨RX3, "<init>", "(LWidowRoads;)V"⟩
def dkwX3_init_4 : List UInt8 := [181, 0, 47, 42, 16, 7, 188, 11, 181, 0, 50, 177]
abbrev dktX3_init_4 : List UInt8 := dkwX3_init_4 ++ []
def dkwX3_init_3 : List UInt8 := [181, 0, 37, 42, 16, 13, 188, 11, 181, 0, 40, 42, 16, 13, 188, 11, 181, 0, 44, 42, 16, 13, 188, 11]
abbrev dktX3_init_3 : List UInt8 := dkwX3_init_3 ++ dktX3_init_4
def dkwX3_init_2 : List UInt8 := [181, 0, 28, 42, 16, 6, 188, 10, 181, 0, 31, 42, 16, 7, 188, 10, 181, 0, 34, 42, 16, 7, 188, 10]
abbrev dktX3_init_2 : List UInt8 := dkwX3_init_2 ++ dktX3_init_3
def dkwX3_init_1 : List UInt8 := [181, 0, 19, 42, 16, 7, 188, 10, 181, 0, 22, 42, 16, 7, 188, 10, 181, 0, 25, 42, 16, 78, 188, 10]
abbrev dktX3_init_1 : List UInt8 := dkwX3_init_1 ++ dktX3_init_2
def dkwX3_init_0 : List UInt8 := [42, 43, 181, 0, 3, 42, 183, 0, 9, 42, 17, 1, 31, 188, 10, 181, 0, 15, 42, 16, 7, 188, 10]
abbrev dktX3_init_0 : List UInt8 := dkwX3_init_0 ++ dktX3_init_1
theorem dksX3_init_0 : cX3_init.data.toList.drop 0 = dktX3_init_0 := by decide +kernel
theorem dksX3_init_1 : cX3_init.data.toList.drop 23 = dktX3_init_1 := dk_seg dksX3_init_0 23 rfl rfl
theorem dksX3_init_2 : cX3_init.data.toList.drop 47 = dktX3_init_2 := dk_seg dksX3_init_1 24 rfl rfl
theorem dksX3_init_3 : cX3_init.data.toList.drop 71 = dktX3_init_3 := dk_seg dksX3_init_2 24 rfl rfl
theorem dksX3_init_4 : cX3_init.data.toList.drop 95 = dktX3_init_4 := dk_seg dksX3_init_3 24 rfl rfl
theorem dX3_init_0 : decode cX3_init 0 = .ok (.aload_n 0, 1) := dk_42 (dk_at dksX3_init_0 0 rfl rfl)
theorem dX3_init_1 : decode cX3_init 1 = .ok (.aload_n 1, 1) := dk_43 (dk_at dksX3_init_0 1 rfl rfl)
theorem dX3_init_2 : decode cX3_init 2 = .ok (.putfield 3, 3) := dk_181 0 3 (dk_at dksX3_init_0 2 rfl rfl)
theorem dX3_init_5 : decode cX3_init 5 = .ok (.aload_n 0, 1) := dk_42 (dk_at dksX3_init_0 5 rfl rfl)
theorem dX3_init_6 : decode cX3_init 6 = .ok (.invokespecial 9, 3) := dk_183 0 9 (dk_at dksX3_init_0 6 rfl rfl)
theorem dX3_init_9 : decode cX3_init 9 = .ok (.aload_n 0, 1) := dk_42 (dk_at dksX3_init_0 9 rfl rfl)
theorem dX3_init_10 : decode cX3_init 10 = .ok (.sipush 287, 3) := dk_17 1 31 (dk_at dksX3_init_0 10 rfl rfl)
theorem dX3_init_13 : decode cX3_init 13 = .ok (.newarray .int, 2) := dk_188_10 (dk_at dksX3_init_0 13 rfl rfl)
theorem dX3_init_15 : decode cX3_init 15 = .ok (.putfield 15, 3) := dk_181 0 15 (dk_at dksX3_init_0 15 rfl rfl)
theorem dX3_init_18 : decode cX3_init 18 = .ok (.aload_n 0, 1) := dk_42 (dk_at dksX3_init_0 18 rfl rfl)
theorem dX3_init_19 : decode cX3_init 19 = .ok (.bipush 7, 2) := dk_16 7 (dk_at dksX3_init_0 19 rfl rfl)
theorem dX3_init_21 : decode cX3_init 21 = .ok (.newarray .int, 2) := dk_188_10 (dk_at dksX3_init_0 21 rfl rfl)
theorem dX3_init_23 : decode cX3_init 23 = .ok (.putfield 19, 3) := dk_181 0 19 (dk_at dksX3_init_1 0 rfl rfl)
theorem dX3_init_26 : decode cX3_init 26 = .ok (.aload_n 0, 1) := dk_42 (dk_at dksX3_init_1 3 rfl rfl)
theorem dX3_init_27 : decode cX3_init 27 = .ok (.bipush 7, 2) := dk_16 7 (dk_at dksX3_init_1 4 rfl rfl)
theorem dX3_init_29 : decode cX3_init 29 = .ok (.newarray .int, 2) := dk_188_10 (dk_at dksX3_init_1 6 rfl rfl)
theorem dX3_init_31 : decode cX3_init 31 = .ok (.putfield 22, 3) := dk_181 0 22 (dk_at dksX3_init_1 8 rfl rfl)
theorem dX3_init_34 : decode cX3_init 34 = .ok (.aload_n 0, 1) := dk_42 (dk_at dksX3_init_1 11 rfl rfl)
theorem dX3_init_35 : decode cX3_init 35 = .ok (.bipush 7, 2) := dk_16 7 (dk_at dksX3_init_1 12 rfl rfl)
theorem dX3_init_37 : decode cX3_init 37 = .ok (.newarray .int, 2) := dk_188_10 (dk_at dksX3_init_1 14 rfl rfl)
theorem dX3_init_39 : decode cX3_init 39 = .ok (.putfield 25, 3) := dk_181 0 25 (dk_at dksX3_init_1 16 rfl rfl)
theorem dX3_init_42 : decode cX3_init 42 = .ok (.aload_n 0, 1) := dk_42 (dk_at dksX3_init_1 19 rfl rfl)
theorem dX3_init_43 : decode cX3_init 43 = .ok (.bipush 78, 2) := dk_16 78 (dk_at dksX3_init_1 20 rfl rfl)
theorem dX3_init_45 : decode cX3_init 45 = .ok (.newarray .int, 2) := dk_188_10 (dk_at dksX3_init_1 22 rfl rfl)
theorem dX3_init_47 : decode cX3_init 47 = .ok (.putfield 28, 3) := dk_181 0 28 (dk_at dksX3_init_2 0 rfl rfl)
theorem dX3_init_50 : decode cX3_init 50 = .ok (.aload_n 0, 1) := dk_42 (dk_at dksX3_init_2 3 rfl rfl)
theorem dX3_init_51 : decode cX3_init 51 = .ok (.bipush 6, 2) := dk_16 6 (dk_at dksX3_init_2 4 rfl rfl)
theorem dX3_init_53 : decode cX3_init 53 = .ok (.newarray .int, 2) := dk_188_10 (dk_at dksX3_init_2 6 rfl rfl)
theorem dX3_init_55 : decode cX3_init 55 = .ok (.putfield 31, 3) := dk_181 0 31 (dk_at dksX3_init_2 8 rfl rfl)
theorem dX3_init_58 : decode cX3_init 58 = .ok (.aload_n 0, 1) := dk_42 (dk_at dksX3_init_2 11 rfl rfl)
theorem dX3_init_59 : decode cX3_init 59 = .ok (.bipush 7, 2) := dk_16 7 (dk_at dksX3_init_2 12 rfl rfl)
theorem dX3_init_61 : decode cX3_init 61 = .ok (.newarray .int, 2) := dk_188_10 (dk_at dksX3_init_2 14 rfl rfl)
theorem dX3_init_63 : decode cX3_init 63 = .ok (.putfield 34, 3) := dk_181 0 34 (dk_at dksX3_init_2 16 rfl rfl)
theorem dX3_init_66 : decode cX3_init 66 = .ok (.aload_n 0, 1) := dk_42 (dk_at dksX3_init_2 19 rfl rfl)
theorem dX3_init_67 : decode cX3_init 67 = .ok (.bipush 7, 2) := dk_16 7 (dk_at dksX3_init_2 20 rfl rfl)
theorem dX3_init_69 : decode cX3_init 69 = .ok (.newarray .int, 2) := dk_188_10 (dk_at dksX3_init_2 22 rfl rfl)
theorem dX3_init_71 : decode cX3_init 71 = .ok (.putfield 37, 3) := dk_181 0 37 (dk_at dksX3_init_3 0 rfl rfl)
theorem dX3_init_74 : decode cX3_init 74 = .ok (.aload_n 0, 1) := dk_42 (dk_at dksX3_init_3 3 rfl rfl)
theorem dX3_init_75 : decode cX3_init 75 = .ok (.bipush 13, 2) := dk_16 13 (dk_at dksX3_init_3 4 rfl rfl)
theorem dX3_init_77 : decode cX3_init 77 = .ok (.newarray .long, 2) := dk_188_11 (dk_at dksX3_init_3 6 rfl rfl)
theorem dX3_init_79 : decode cX3_init 79 = .ok (.putfield 40, 3) := dk_181 0 40 (dk_at dksX3_init_3 8 rfl rfl)
theorem dX3_init_82 : decode cX3_init 82 = .ok (.aload_n 0, 1) := dk_42 (dk_at dksX3_init_3 11 rfl rfl)
theorem dX3_init_83 : decode cX3_init 83 = .ok (.bipush 13, 2) := dk_16 13 (dk_at dksX3_init_3 12 rfl rfl)
theorem dX3_init_85 : decode cX3_init 85 = .ok (.newarray .long, 2) := dk_188_11 (dk_at dksX3_init_3 14 rfl rfl)
theorem dX3_init_87 : decode cX3_init 87 = .ok (.putfield 44, 3) := dk_181 0 44 (dk_at dksX3_init_3 16 rfl rfl)
theorem dX3_init_90 : decode cX3_init 90 = .ok (.aload_n 0, 1) := dk_42 (dk_at dksX3_init_3 19 rfl rfl)
theorem dX3_init_91 : decode cX3_init 91 = .ok (.bipush 13, 2) := dk_16 13 (dk_at dksX3_init_3 20 rfl rfl)
theorem dX3_init_93 : decode cX3_init 93 = .ok (.newarray .long, 2) := dk_188_11 (dk_at dksX3_init_3 22 rfl rfl)
theorem dX3_init_95 : decode cX3_init 95 = .ok (.putfield 47, 3) := dk_181 0 47 (dk_at dksX3_init_4 0 rfl rfl)
theorem dX3_init_98 : decode cX3_init 98 = .ok (.aload_n 0, 1) := dk_42 (dk_at dksX3_init_4 3 rfl rfl)
theorem dX3_init_99 : decode cX3_init 99 = .ok (.bipush 7, 2) := dk_16 7 (dk_at dksX3_init_4 4 rfl rfl)
theorem dX3_init_101 : decode cX3_init 101 = .ok (.newarray .long, 2) := dk_188_11 (dk_at dksX3_init_4 6 rfl rfl)
theorem dX3_init_103 : decode cX3_init 103 = .ok (.putfield 50, 3) := dk_181 0 50 (dk_at dksX3_init_4 8 rfl rfl)
theorem dX3_init_106 : decode cX3_init 106 = .ok (.return_, 1) := dk_177 (dk_at dksX3_init_4 11 rfl rfl)
abbrev cX3_is : ByteArray := prog_8_method_2_code
def yX3_is : MethodName := ⟨RX3, "is", "()LWidowRoads$Walks;"⟩
def dkwX3_is_5 : List UInt8 := [180, 0, 112, 79, 42, 180, 0, 37, 27, 2, 79, 132, 1, 1, 167, 255, 218, 42, 176]
abbrev dktX3_is_5 : List UInt8 := dkwX3_is_5 ++ []
def dkwX3_is_4 : List UInt8 := [42, 180, 0, 3, 182, 0, 104, 162, 0, 33, 42, 180, 0, 34, 27, 42, 180, 0, 3, 27, 182, 0, 108]
abbrev dktX3_is_4 : List UInt8 := dkwX3_is_4 ++ dktX3_is_5
def dkwX3_is_3 : List UInt8 := [154, 0, 18, 42, 89, 180, 0, 64, 4, 44, 180, 0, 101, 120, 128, 181, 0, 64, 167, 255, 215, 3, 60, 27]
abbrev dktX3_is_3 : List UInt8 := dkwX3_is_3 ++ dktX3_is_4
def dkwX3_is_2 : List UInt8 := [185, 0, 85, 1, 0, 153, 0, 38, 43, 185, 0, 91, 1, 0, 192, 0, 95, 77, 44, 180, 0, 97]
abbrev dktX3_is_2 : List UInt8 := dkwX3_is_2 ++ dktX3_is_3
def dkwX3_is_1 : List UInt8 := [182, 0, 67, 181, 0, 71, 42, 180, 0, 3, 180, 0, 53, 180, 0, 75, 185, 0, 79, 1, 0, 76, 43]
abbrev dktX3_is_1 : List UInt8 := dkwX3_is_1 ++ dktX3_is_2
def dkwX3_is_0 : List UInt8 := [42, 42, 180, 0, 3, 180, 0, 53, 180, 0, 57, 181, 0, 63, 42, 3, 181, 0, 64, 42, 42, 180, 0, 3]
abbrev dktX3_is_0 : List UInt8 := dkwX3_is_0 ++ dktX3_is_1
theorem dksX3_is_0 : cX3_is.data.toList.drop 0 = dktX3_is_0 := by decide +kernel
theorem dksX3_is_1 : cX3_is.data.toList.drop 24 = dktX3_is_1 := dk_seg dksX3_is_0 24 rfl rfl
theorem dksX3_is_2 : cX3_is.data.toList.drop 47 = dktX3_is_2 := dk_seg dksX3_is_1 23 rfl rfl
theorem dksX3_is_3 : cX3_is.data.toList.drop 69 = dktX3_is_3 := dk_seg dksX3_is_2 22 rfl rfl
theorem dksX3_is_4 : cX3_is.data.toList.drop 93 = dktX3_is_4 := dk_seg dksX3_is_3 24 rfl rfl
theorem dksX3_is_5 : cX3_is.data.toList.drop 116 = dktX3_is_5 := dk_seg dksX3_is_4 23 rfl rfl
theorem dX3_is_0 : decode cX3_is 0 = .ok (.aload_n 0, 1) := dk_42 (dk_at dksX3_is_0 0 rfl rfl)
theorem dX3_is_1 : decode cX3_is 1 = .ok (.aload_n 0, 1) := dk_42 (dk_at dksX3_is_0 1 rfl rfl)
theorem dX3_is_2 : decode cX3_is 2 = .ok (.getfield 3, 3) := dk_180 0 3 (dk_at dksX3_is_0 2 rfl rfl)
theorem dX3_is_5 : decode cX3_is 5 = .ok (.getfield 53, 3) := dk_180 0 53 (dk_at dksX3_is_0 5 rfl rfl)
theorem dX3_is_8 : decode cX3_is 8 = .ok (.getfield 57, 3) := dk_180 0 57 (dk_at dksX3_is_0 8 rfl rfl)
theorem dX3_is_11 : decode cX3_is 11 = .ok (.putfield 63, 3) := dk_181 0 63 (dk_at dksX3_is_0 11 rfl rfl)
theorem dX3_is_14 : decode cX3_is 14 = .ok (.aload_n 0, 1) := dk_42 (dk_at dksX3_is_0 14 rfl rfl)
theorem dX3_is_15 : decode cX3_is 15 = .ok (.iconst 0, 1) := dk_3 (dk_at dksX3_is_0 15 rfl rfl)
theorem dX3_is_16 : decode cX3_is 16 = .ok (.putfield 64, 3) := dk_181 0 64 (dk_at dksX3_is_0 16 rfl rfl)
theorem dX3_is_19 : decode cX3_is 19 = .ok (.aload_n 0, 1) := dk_42 (dk_at dksX3_is_0 19 rfl rfl)
theorem dX3_is_20 : decode cX3_is 20 = .ok (.aload_n 0, 1) := dk_42 (dk_at dksX3_is_0 20 rfl rfl)
theorem dX3_is_21 : decode cX3_is 21 = .ok (.getfield 3, 3) := dk_180 0 3 (dk_at dksX3_is_0 21 rfl rfl)
theorem dX3_is_24 : decode cX3_is 24 = .ok (.invokevirtual 67, 3) := dk_182 0 67 (dk_at dksX3_is_1 0 rfl rfl)
theorem dX3_is_27 : decode cX3_is 27 = .ok (.putfield 71, 3) := dk_181 0 71 (dk_at dksX3_is_1 3 rfl rfl)
theorem dX3_is_30 : decode cX3_is 30 = .ok (.aload_n 0, 1) := dk_42 (dk_at dksX3_is_1 6 rfl rfl)
theorem dX3_is_31 : decode cX3_is 31 = .ok (.getfield 3, 3) := dk_180 0 3 (dk_at dksX3_is_1 7 rfl rfl)
theorem dX3_is_34 : decode cX3_is 34 = .ok (.getfield 53, 3) := dk_180 0 53 (dk_at dksX3_is_1 10 rfl rfl)
theorem dX3_is_37 : decode cX3_is 37 = .ok (.getfield 75, 3) := dk_180 0 75 (dk_at dksX3_is_1 13 rfl rfl)
theorem dX3_is_40 : decode cX3_is 40 = .ok (.invokeinterface 79 1, 5) := by decide +kernel
theorem dX3_is_45 : decode cX3_is 45 = .ok (.astore_n 1, 1) := dk_76 (dk_at dksX3_is_1 21 rfl rfl)
theorem dX3_is_46 : decode cX3_is 46 = .ok (.aload_n 1, 1) := dk_43 (dk_at dksX3_is_1 22 rfl rfl)
theorem dX3_is_47 : decode cX3_is 47 = .ok (.invokeinterface 85 1, 5) := by decide +kernel
theorem dX3_is_52 : decode cX3_is 52 = .ok (.ifCond .eq 38, 3) := dk_153 0 38 (dk_at dksX3_is_2 5 rfl rfl)
theorem dX3_is_55 : decode cX3_is 55 = .ok (.aload_n 1, 1) := dk_43 (dk_at dksX3_is_2 8 rfl rfl)
theorem dX3_is_56 : decode cX3_is 56 = .ok (.invokeinterface 91 1, 5) := by decide +kernel
theorem dX3_is_61 : decode cX3_is 61 = .ok (.checkcast 95, 3) := dk_192 0 95 (dk_at dksX3_is_2 14 rfl rfl)
theorem dX3_is_64 : decode cX3_is 64 = .ok (.astore_n 2, 1) := dk_77 (dk_at dksX3_is_2 17 rfl rfl)
theorem dX3_is_65 : decode cX3_is 65 = .ok (.aload_n 2, 1) := dk_44 (dk_at dksX3_is_2 18 rfl rfl)
theorem dX3_is_66 : decode cX3_is 66 = .ok (.getfield 97, 3) := dk_180 0 97 (dk_at dksX3_is_2 19 rfl rfl)
theorem dX3_is_69 : decode cX3_is 69 = .ok (.ifCond .ne 18, 3) := dk_154 0 18 (dk_at dksX3_is_3 0 rfl rfl)
theorem dX3_is_72 : decode cX3_is 72 = .ok (.aload_n 0, 1) := dk_42 (dk_at dksX3_is_3 3 rfl rfl)
theorem dX3_is_73 : decode cX3_is 73 = .ok (.dup, 1) := dk_89 (dk_at dksX3_is_3 4 rfl rfl)
theorem dX3_is_74 : decode cX3_is 74 = .ok (.getfield 64, 3) := dk_180 0 64 (dk_at dksX3_is_3 5 rfl rfl)
theorem dX3_is_77 : decode cX3_is 77 = .ok (.iconst 1, 1) := dk_4 (dk_at dksX3_is_3 8 rfl rfl)
theorem dX3_is_78 : decode cX3_is 78 = .ok (.aload_n 2, 1) := dk_44 (dk_at dksX3_is_3 9 rfl rfl)
theorem dX3_is_79 : decode cX3_is 79 = .ok (.getfield 101, 3) := dk_180 0 101 (dk_at dksX3_is_3 10 rfl rfl)
theorem dX3_is_82 : decode cX3_is 82 = .ok (.ishl, 1) := dk_120 (dk_at dksX3_is_3 13 rfl rfl)
theorem dX3_is_83 : decode cX3_is 83 = .ok (.ior, 1) := dk_128 (dk_at dksX3_is_3 14 rfl rfl)
theorem dX3_is_84 : decode cX3_is 84 = .ok (.putfield 64, 3) := dk_181 0 64 (dk_at dksX3_is_3 15 rfl rfl)
theorem dX3_is_87 : decode cX3_is 87 = .ok (.goto (-41), 3) := dk_167 255 215 (dk_at dksX3_is_3 18 rfl rfl)
theorem dX3_is_90 : decode cX3_is 90 = .ok (.iconst 0, 1) := dk_3 (dk_at dksX3_is_3 21 rfl rfl)
theorem dX3_is_91 : decode cX3_is 91 = .ok (.istore_n 1, 1) := dk_60 (dk_at dksX3_is_3 22 rfl rfl)
theorem dX3_is_92 : decode cX3_is 92 = .ok (.iload_n 1, 1) := dk_27 (dk_at dksX3_is_3 23 rfl rfl)
theorem dX3_is_93 : decode cX3_is 93 = .ok (.aload_n 0, 1) := dk_42 (dk_at dksX3_is_4 0 rfl rfl)
theorem dX3_is_94 : decode cX3_is 94 = .ok (.getfield 3, 3) := dk_180 0 3 (dk_at dksX3_is_4 1 rfl rfl)
theorem dX3_is_97 : decode cX3_is 97 = .ok (.invokevirtual 104, 3) := dk_182 0 104 (dk_at dksX3_is_4 4 rfl rfl)
theorem dX3_is_100 : decode cX3_is 100 = .ok (.if_icmp .ge 33, 3) := dk_162 0 33 (dk_at dksX3_is_4 7 rfl rfl)
theorem dX3_is_103 : decode cX3_is 103 = .ok (.aload_n 0, 1) := dk_42 (dk_at dksX3_is_4 10 rfl rfl)
theorem dX3_is_104 : decode cX3_is 104 = .ok (.getfield 34, 3) := dk_180 0 34 (dk_at dksX3_is_4 11 rfl rfl)
theorem dX3_is_107 : decode cX3_is 107 = .ok (.iload_n 1, 1) := dk_27 (dk_at dksX3_is_4 14 rfl rfl)
theorem dX3_is_108 : decode cX3_is 108 = .ok (.aload_n 0, 1) := dk_42 (dk_at dksX3_is_4 15 rfl rfl)
theorem dX3_is_109 : decode cX3_is 109 = .ok (.getfield 3, 3) := dk_180 0 3 (dk_at dksX3_is_4 16 rfl rfl)
theorem dX3_is_112 : decode cX3_is 112 = .ok (.iload_n 1, 1) := dk_27 (dk_at dksX3_is_4 19 rfl rfl)
theorem dX3_is_113 : decode cX3_is 113 = .ok (.invokevirtual 108, 3) := dk_182 0 108 (dk_at dksX3_is_4 20 rfl rfl)
theorem dX3_is_116 : decode cX3_is 116 = .ok (.getfield 112, 3) := dk_180 0 112 (dk_at dksX3_is_5 0 rfl rfl)
theorem dX3_is_119 : decode cX3_is 119 = .ok (.iastore, 1) := dk_79 (dk_at dksX3_is_5 3 rfl rfl)
theorem dX3_is_120 : decode cX3_is 120 = .ok (.aload_n 0, 1) := dk_42 (dk_at dksX3_is_5 4 rfl rfl)
theorem dX3_is_121 : decode cX3_is 121 = .ok (.getfield 37, 3) := dk_180 0 37 (dk_at dksX3_is_5 5 rfl rfl)
theorem dX3_is_124 : decode cX3_is 124 = .ok (.iload_n 1, 1) := dk_27 (dk_at dksX3_is_5 8 rfl rfl)
theorem dX3_is_125 : decode cX3_is 125 = .ok (.iconst (-1), 1) := dk_2 (dk_at dksX3_is_5 9 rfl rfl)
theorem dX3_is_126 : decode cX3_is 126 = .ok (.iastore, 1) := dk_79 (dk_at dksX3_is_5 10 rfl rfl)
theorem dX3_is_127 : decode cX3_is 127 = .ok (.iinc 1 1, 3) := dk_132 1 1 (dk_at dksX3_is_5 11 rfl rfl)
theorem dX3_is_130 : decode cX3_is 130 = .ok (.goto (-38), 3) := dk_167 255 218 (dk_at dksX3_is_5 14 rfl rfl)
theorem dX3_is_133 : decode cX3_is 133 = .ok (.aload_n 0, 1) := dk_42 (dk_at dksX3_is_5 17 rfl rfl)
theorem dX3_is_134 : decode cX3_is 134 = .ok (.areturn, 1) := dk_176 (dk_at dksX3_is_5 18 rfl rfl)
abbrev cX3_goes : ByteArray := prog_8_method_3_code
def yX3_goes : MethodName := ⟨RX3, "goes", "()LWidowRoads$Walks;"⟩
def dkwX3_goes_11 : List UInt8 := [132, 1, 1, 167, 255, 117, 42, 176]
abbrev dktX3_goes_11 : List UInt8 := dkwX3_goes_11 ++ []
def dkwX3_goes_10 : List UInt8 := [180, 0, 64, 28, 184, 0, 160, 154, 0, 11, 42, 28, 27, 4, 96, 182, 0, 164, 132, 2, 1, 167, 255, 208]
abbrev dktX3_goes_10 : List UInt8 := dkwX3_goes_10 ++ dktX3_goes_11
def dkwX3_goes_9 : List UInt8 := [182, 0, 104, 162, 0, 43, 42, 180, 0, 3, 28, 182, 0, 108, 180, 0, 157, 27, 160, 0, 22, 42]
abbrev dktX3_goes_9 : List UInt8 := dkwX3_goes_9 ++ dktX3_goes_10
def dkwX3_goes_8 : List UInt8 := [104, 42, 180, 0, 28, 16, 6, 27, 4, 96, 104, 16, 6, 184, 0, 151, 3, 61, 28, 42, 180, 0, 3]
abbrev dktX3_goes_8 : List UInt8 := dkwX3_goes_8 ++ dktX3_goes_9
def dkwX3_goes_7 : List UInt8 := [80, 27, 42, 180, 0, 3, 180, 0, 53, 180, 0, 148, 160, 0, 5, 42, 176, 42, 180, 0, 28, 16, 6, 27]
abbrev dktX3_goes_7 : List UInt8 := dkwX3_goes_7 ++ dktX3_goes_8
def dkwX3_goes_6 : List UInt8 := [42, 180, 0, 116, 80, 42, 180, 0, 44, 27, 42, 180, 0, 119, 80, 42, 180, 0, 47, 27, 42, 180, 0, 122]
abbrev dktX3_goes_6 : List UInt8 := dkwX3_goes_6 ++ dktX3_goes_7
def dkwX3_goes_5 : List UInt8 := [167, 255, 206, 3, 60, 27, 42, 180, 0, 3, 180, 0, 53, 180, 0, 148, 163, 0, 131, 42, 180, 0, 40, 27]
abbrev dktX3_goes_5 : List UInt8 := dkwX3_goes_5 ++ dktX3_goes_6
def dkwX3_goes_4 : List UInt8 := [180, 0, 53, 180, 0, 134, 27, 185, 0, 139, 2, 0, 192, 0, 143, 182, 0, 145, 79, 132, 1, 1]
abbrev dktX3_goes_4 : List UInt8 := dkwX3_goes_4 ++ dktX3_goes_5
def dkwX3_goes_3 : List UInt8 := [180, 0, 53, 180, 0, 134, 185, 0, 136, 1, 0, 162, 0, 37, 42, 180, 0, 28, 27, 42, 180, 0, 3]
abbrev dktX3_goes_3 : List UInt8 := dkwX3_goes_3 ++ dktX3_goes_4
def dkwX3_goes_2 : List UInt8 := [180, 0, 50, 9, 184, 0, 131, 42, 180, 0, 31, 3, 184, 0, 125, 3, 60, 27, 42, 180, 0, 3]
abbrev dktX3_goes_2 : List UInt8 := dkwX3_goes_2 ++ dktX3_goes_3
def dkwX3_goes_1 : List UInt8 := [180, 0, 19, 2, 184, 0, 125, 42, 180, 0, 22, 2, 184, 0, 125, 42, 180, 0, 25, 2, 184, 0, 125, 42]
abbrev dktX3_goes_1 : List UInt8 := dkwX3_goes_1 ++ dktX3_goes_2
def dkwX3_goes_0 : List UInt8 := [42, 9, 181, 0, 116, 42, 9, 181, 0, 119, 42, 9, 181, 0, 122, 42, 180, 0, 15, 2, 184, 0, 125, 42]
abbrev dktX3_goes_0 : List UInt8 := dkwX3_goes_0 ++ dktX3_goes_1
theorem dksX3_goes_0 : cX3_goes.data.toList.drop 0 = dktX3_goes_0 := by decide +kernel
theorem dksX3_goes_1 : cX3_goes.data.toList.drop 24 = dktX3_goes_1 := dk_seg dksX3_goes_0 24 rfl rfl
theorem dksX3_goes_2 : cX3_goes.data.toList.drop 48 = dktX3_goes_2 := dk_seg dksX3_goes_1 24 rfl rfl
theorem dksX3_goes_3 : cX3_goes.data.toList.drop 70 = dktX3_goes_3 := dk_seg dksX3_goes_2 22 rfl rfl
theorem dksX3_goes_4 : cX3_goes.data.toList.drop 93 = dktX3_goes_4 := dk_seg dksX3_goes_3 23 rfl rfl
theorem dksX3_goes_5 : cX3_goes.data.toList.drop 115 = dktX3_goes_5 := dk_seg dksX3_goes_4 22 rfl rfl
theorem dksX3_goes_6 : cX3_goes.data.toList.drop 139 = dktX3_goes_6 := dk_seg dksX3_goes_5 24 rfl rfl
theorem dksX3_goes_7 : cX3_goes.data.toList.drop 163 = dktX3_goes_7 := dk_seg dksX3_goes_6 24 rfl rfl
theorem dksX3_goes_8 : cX3_goes.data.toList.drop 187 = dktX3_goes_8 := dk_seg dksX3_goes_7 24 rfl rfl
theorem dksX3_goes_9 : cX3_goes.data.toList.drop 210 = dktX3_goes_9 := dk_seg dksX3_goes_8 23 rfl rfl
theorem dksX3_goes_10 : cX3_goes.data.toList.drop 232 = dktX3_goes_10 := dk_seg dksX3_goes_9 22 rfl rfl
theorem dksX3_goes_11 : cX3_goes.data.toList.drop 256 = dktX3_goes_11 := dk_seg dksX3_goes_10 24 rfl rfl
theorem dX3_goes_0 : decode cX3_goes 0 = .ok (.aload_n 0, 1) := dk_42 (dk_at dksX3_goes_0 0 rfl rfl)
theorem dX3_goes_1 : decode cX3_goes 1 = .ok (.lconst 0, 1) := dk_9 (dk_at dksX3_goes_0 1 rfl rfl)
theorem dX3_goes_2 : decode cX3_goes 2 = .ok (.putfield 116, 3) := dk_181 0 116 (dk_at dksX3_goes_0 2 rfl rfl)
theorem dX3_goes_5 : decode cX3_goes 5 = .ok (.aload_n 0, 1) := dk_42 (dk_at dksX3_goes_0 5 rfl rfl)
theorem dX3_goes_6 : decode cX3_goes 6 = .ok (.lconst 0, 1) := dk_9 (dk_at dksX3_goes_0 6 rfl rfl)
theorem dX3_goes_7 : decode cX3_goes 7 = .ok (.putfield 119, 3) := dk_181 0 119 (dk_at dksX3_goes_0 7 rfl rfl)
theorem dX3_goes_10 : decode cX3_goes 10 = .ok (.aload_n 0, 1) := dk_42 (dk_at dksX3_goes_0 10 rfl rfl)
theorem dX3_goes_11 : decode cX3_goes 11 = .ok (.lconst 0, 1) := dk_9 (dk_at dksX3_goes_0 11 rfl rfl)
theorem dX3_goes_12 : decode cX3_goes 12 = .ok (.putfield 122, 3) := dk_181 0 122 (dk_at dksX3_goes_0 12 rfl rfl)
theorem dX3_goes_15 : decode cX3_goes 15 = .ok (.aload_n 0, 1) := dk_42 (dk_at dksX3_goes_0 15 rfl rfl)
theorem dX3_goes_16 : decode cX3_goes 16 = .ok (.getfield 15, 3) := dk_180 0 15 (dk_at dksX3_goes_0 16 rfl rfl)
theorem dX3_goes_19 : decode cX3_goes 19 = .ok (.iconst (-1), 1) := dk_2 (dk_at dksX3_goes_0 19 rfl rfl)
theorem dX3_goes_20 : decode cX3_goes 20 = .ok (.invokestatic 125, 3) := dk_184 0 125 (dk_at dksX3_goes_0 20 rfl rfl)
theorem dX3_goes_23 : decode cX3_goes 23 = .ok (.aload_n 0, 1) := dk_42 (dk_at dksX3_goes_0 23 rfl rfl)
theorem dX3_goes_24 : decode cX3_goes 24 = .ok (.getfield 19, 3) := dk_180 0 19 (dk_at dksX3_goes_1 0 rfl rfl)
theorem dX3_goes_27 : decode cX3_goes 27 = .ok (.iconst (-1), 1) := dk_2 (dk_at dksX3_goes_1 3 rfl rfl)
theorem dX3_goes_28 : decode cX3_goes 28 = .ok (.invokestatic 125, 3) := dk_184 0 125 (dk_at dksX3_goes_1 4 rfl rfl)
theorem dX3_goes_31 : decode cX3_goes 31 = .ok (.aload_n 0, 1) := dk_42 (dk_at dksX3_goes_1 7 rfl rfl)
theorem dX3_goes_32 : decode cX3_goes 32 = .ok (.getfield 22, 3) := dk_180 0 22 (dk_at dksX3_goes_1 8 rfl rfl)
theorem dX3_goes_35 : decode cX3_goes 35 = .ok (.iconst (-1), 1) := dk_2 (dk_at dksX3_goes_1 11 rfl rfl)
theorem dX3_goes_36 : decode cX3_goes 36 = .ok (.invokestatic 125, 3) := dk_184 0 125 (dk_at dksX3_goes_1 12 rfl rfl)
theorem dX3_goes_39 : decode cX3_goes 39 = .ok (.aload_n 0, 1) := dk_42 (dk_at dksX3_goes_1 15 rfl rfl)
theorem dX3_goes_40 : decode cX3_goes 40 = .ok (.getfield 25, 3) := dk_180 0 25 (dk_at dksX3_goes_1 16 rfl rfl)
theorem dX3_goes_43 : decode cX3_goes 43 = .ok (.iconst (-1), 1) := dk_2 (dk_at dksX3_goes_1 19 rfl rfl)
theorem dX3_goes_44 : decode cX3_goes 44 = .ok (.invokestatic 125, 3) := dk_184 0 125 (dk_at dksX3_goes_1 20 rfl rfl)
theorem dX3_goes_47 : decode cX3_goes 47 = .ok (.aload_n 0, 1) := dk_42 (dk_at dksX3_goes_1 23 rfl rfl)
theorem dX3_goes_48 : decode cX3_goes 48 = .ok (.getfield 50, 3) := dk_180 0 50 (dk_at dksX3_goes_2 0 rfl rfl)
theorem dX3_goes_51 : decode cX3_goes 51 = .ok (.lconst 0, 1) := dk_9 (dk_at dksX3_goes_2 3 rfl rfl)
theorem dX3_goes_52 : decode cX3_goes 52 = .ok (.invokestatic 131, 3) := dk_184 0 131 (dk_at dksX3_goes_2 4 rfl rfl)
theorem dX3_goes_55 : decode cX3_goes 55 = .ok (.aload_n 0, 1) := dk_42 (dk_at dksX3_goes_2 7 rfl rfl)
theorem dX3_goes_56 : decode cX3_goes 56 = .ok (.getfield 31, 3) := dk_180 0 31 (dk_at dksX3_goes_2 8 rfl rfl)
theorem dX3_goes_59 : decode cX3_goes 59 = .ok (.iconst 0, 1) := dk_3 (dk_at dksX3_goes_2 11 rfl rfl)
theorem dX3_goes_60 : decode cX3_goes 60 = .ok (.invokestatic 125, 3) := dk_184 0 125 (dk_at dksX3_goes_2 12 rfl rfl)
theorem dX3_goes_63 : decode cX3_goes 63 = .ok (.iconst 0, 1) := dk_3 (dk_at dksX3_goes_2 15 rfl rfl)
theorem dX3_goes_64 : decode cX3_goes 64 = .ok (.istore_n 1, 1) := dk_60 (dk_at dksX3_goes_2 16 rfl rfl)
theorem dX3_goes_65 : decode cX3_goes 65 = .ok (.iload_n 1, 1) := dk_27 (dk_at dksX3_goes_2 17 rfl rfl)
theorem dX3_goes_66 : decode cX3_goes 66 = .ok (.aload_n 0, 1) := dk_42 (dk_at dksX3_goes_2 18 rfl rfl)
theorem dX3_goes_67 : decode cX3_goes 67 = .ok (.getfield 3, 3) := dk_180 0 3 (dk_at dksX3_goes_2 19 rfl rfl)
theorem dX3_goes_70 : decode cX3_goes 70 = .ok (.getfield 53, 3) := dk_180 0 53 (dk_at dksX3_goes_3 0 rfl rfl)
theorem dX3_goes_73 : decode cX3_goes 73 = .ok (.getfield 134, 3) := dk_180 0 134 (dk_at dksX3_goes_3 3 rfl rfl)
theorem dX3_goes_76 : decode cX3_goes 76 = .ok (.invokeinterface 136 1, 5) := by decide +kernel
theorem dX3_goes_81 : decode cX3_goes 81 = .ok (.if_icmp .ge 37, 3) := dk_162 0 37 (dk_at dksX3_goes_3 11 rfl rfl)
theorem dX3_goes_84 : decode cX3_goes 84 = .ok (.aload_n 0, 1) := dk_42 (dk_at dksX3_goes_3 14 rfl rfl)
theorem dX3_goes_85 : decode cX3_goes 85 = .ok (.getfield 28, 3) := dk_180 0 28 (dk_at dksX3_goes_3 15 rfl rfl)
theorem dX3_goes_88 : decode cX3_goes 88 = .ok (.iload_n 1, 1) := dk_27 (dk_at dksX3_goes_3 18 rfl rfl)
theorem dX3_goes_89 : decode cX3_goes 89 = .ok (.aload_n 0, 1) := dk_42 (dk_at dksX3_goes_3 19 rfl rfl)
theorem dX3_goes_90 : decode cX3_goes 90 = .ok (.getfield 3, 3) := dk_180 0 3 (dk_at dksX3_goes_3 20 rfl rfl)
theorem dX3_goes_93 : decode cX3_goes 93 = .ok (.getfield 53, 3) := dk_180 0 53 (dk_at dksX3_goes_4 0 rfl rfl)
theorem dX3_goes_96 : decode cX3_goes 96 = .ok (.getfield 134, 3) := dk_180 0 134 (dk_at dksX3_goes_4 3 rfl rfl)
theorem dX3_goes_99 : decode cX3_goes 99 = .ok (.iload_n 1, 1) := dk_27 (dk_at dksX3_goes_4 6 rfl rfl)
theorem dX3_goes_100 : decode cX3_goes 100 = .ok (.invokeinterface 139 2, 5) := by decide +kernel
theorem dX3_goes_105 : decode cX3_goes 105 = .ok (.checkcast 143, 3) := dk_192 0 143 (dk_at dksX3_goes_4 12 rfl rfl)
theorem dX3_goes_108 : decode cX3_goes 108 = .ok (.invokevirtual 145, 3) := dk_182 0 145 (dk_at dksX3_goes_4 15 rfl rfl)
theorem dX3_goes_111 : decode cX3_goes 111 = .ok (.iastore, 1) := dk_79 (dk_at dksX3_goes_4 18 rfl rfl)
theorem dX3_goes_112 : decode cX3_goes 112 = .ok (.iinc 1 1, 3) := dk_132 1 1 (dk_at dksX3_goes_4 19 rfl rfl)
theorem dX3_goes_115 : decode cX3_goes 115 = .ok (.goto (-50), 3) := dk_167 255 206 (dk_at dksX3_goes_5 0 rfl rfl)
theorem dX3_goes_118 : decode cX3_goes 118 = .ok (.iconst 0, 1) := dk_3 (dk_at dksX3_goes_5 3 rfl rfl)
theorem dX3_goes_119 : decode cX3_goes 119 = .ok (.istore_n 1, 1) := dk_60 (dk_at dksX3_goes_5 4 rfl rfl)
theorem dX3_goes_120 : decode cX3_goes 120 = .ok (.iload_n 1, 1) := dk_27 (dk_at dksX3_goes_5 5 rfl rfl)
theorem dX3_goes_121 : decode cX3_goes 121 = .ok (.aload_n 0, 1) := dk_42 (dk_at dksX3_goes_5 6 rfl rfl)
theorem dX3_goes_122 : decode cX3_goes 122 = .ok (.getfield 3, 3) := dk_180 0 3 (dk_at dksX3_goes_5 7 rfl rfl)
theorem dX3_goes_125 : decode cX3_goes 125 = .ok (.getfield 53, 3) := dk_180 0 53 (dk_at dksX3_goes_5 10 rfl rfl)
theorem dX3_goes_128 : decode cX3_goes 128 = .ok (.getfield 148, 3) := dk_180 0 148 (dk_at dksX3_goes_5 13 rfl rfl)
theorem dX3_goes_131 : decode cX3_goes 131 = .ok (.if_icmp .gt 131, 3) := dk_163 0 131 (dk_at dksX3_goes_5 16 rfl rfl)
theorem dX3_goes_134 : decode cX3_goes 134 = .ok (.aload_n 0, 1) := dk_42 (dk_at dksX3_goes_5 19 rfl rfl)
theorem dX3_goes_135 : decode cX3_goes 135 = .ok (.getfield 40, 3) := dk_180 0 40 (dk_at dksX3_goes_5 20 rfl rfl)
theorem dX3_goes_138 : decode cX3_goes 138 = .ok (.iload_n 1, 1) := dk_27 (dk_at dksX3_goes_5 23 rfl rfl)
theorem dX3_goes_139 : decode cX3_goes 139 = .ok (.aload_n 0, 1) := dk_42 (dk_at dksX3_goes_6 0 rfl rfl)
theorem dX3_goes_140 : decode cX3_goes 140 = .ok (.getfield 116, 3) := dk_180 0 116 (dk_at dksX3_goes_6 1 rfl rfl)
theorem dX3_goes_143 : decode cX3_goes 143 = .ok (.lastore, 1) := dk_80 (dk_at dksX3_goes_6 4 rfl rfl)
theorem dX3_goes_144 : decode cX3_goes 144 = .ok (.aload_n 0, 1) := dk_42 (dk_at dksX3_goes_6 5 rfl rfl)
theorem dX3_goes_145 : decode cX3_goes 145 = .ok (.getfield 44, 3) := dk_180 0 44 (dk_at dksX3_goes_6 6 rfl rfl)
theorem dX3_goes_148 : decode cX3_goes 148 = .ok (.iload_n 1, 1) := dk_27 (dk_at dksX3_goes_6 9 rfl rfl)
theorem dX3_goes_149 : decode cX3_goes 149 = .ok (.aload_n 0, 1) := dk_42 (dk_at dksX3_goes_6 10 rfl rfl)
theorem dX3_goes_150 : decode cX3_goes 150 = .ok (.getfield 119, 3) := dk_180 0 119 (dk_at dksX3_goes_6 11 rfl rfl)
theorem dX3_goes_153 : decode cX3_goes 153 = .ok (.lastore, 1) := dk_80 (dk_at dksX3_goes_6 14 rfl rfl)
theorem dX3_goes_154 : decode cX3_goes 154 = .ok (.aload_n 0, 1) := dk_42 (dk_at dksX3_goes_6 15 rfl rfl)
theorem dX3_goes_155 : decode cX3_goes 155 = .ok (.getfield 47, 3) := dk_180 0 47 (dk_at dksX3_goes_6 16 rfl rfl)
theorem dX3_goes_158 : decode cX3_goes 158 = .ok (.iload_n 1, 1) := dk_27 (dk_at dksX3_goes_6 19 rfl rfl)
theorem dX3_goes_159 : decode cX3_goes 159 = .ok (.aload_n 0, 1) := dk_42 (dk_at dksX3_goes_6 20 rfl rfl)
theorem dX3_goes_160 : decode cX3_goes 160 = .ok (.getfield 122, 3) := dk_180 0 122 (dk_at dksX3_goes_6 21 rfl rfl)
theorem dX3_goes_163 : decode cX3_goes 163 = .ok (.lastore, 1) := dk_80 (dk_at dksX3_goes_7 0 rfl rfl)
theorem dX3_goes_164 : decode cX3_goes 164 = .ok (.iload_n 1, 1) := dk_27 (dk_at dksX3_goes_7 1 rfl rfl)
theorem dX3_goes_165 : decode cX3_goes 165 = .ok (.aload_n 0, 1) := dk_42 (dk_at dksX3_goes_7 2 rfl rfl)
theorem dX3_goes_166 : decode cX3_goes 166 = .ok (.getfield 3, 3) := dk_180 0 3 (dk_at dksX3_goes_7 3 rfl rfl)
theorem dX3_goes_169 : decode cX3_goes 169 = .ok (.getfield 53, 3) := dk_180 0 53 (dk_at dksX3_goes_7 6 rfl rfl)
theorem dX3_goes_172 : decode cX3_goes 172 = .ok (.getfield 148, 3) := dk_180 0 148 (dk_at dksX3_goes_7 9 rfl rfl)
theorem dX3_goes_175 : decode cX3_goes 175 = .ok (.if_icmp .ne 5, 3) := dk_160 0 5 (dk_at dksX3_goes_7 12 rfl rfl)
theorem dX3_goes_178 : decode cX3_goes 178 = .ok (.aload_n 0, 1) := dk_42 (dk_at dksX3_goes_7 15 rfl rfl)
theorem dX3_goes_179 : decode cX3_goes 179 = .ok (.areturn, 1) := dk_176 (dk_at dksX3_goes_7 16 rfl rfl)
theorem dX3_goes_180 : decode cX3_goes 180 = .ok (.aload_n 0, 1) := dk_42 (dk_at dksX3_goes_7 17 rfl rfl)
theorem dX3_goes_181 : decode cX3_goes 181 = .ok (.getfield 28, 3) := dk_180 0 28 (dk_at dksX3_goes_7 18 rfl rfl)
theorem dX3_goes_184 : decode cX3_goes 184 = .ok (.bipush 6, 2) := dk_16 6 (dk_at dksX3_goes_7 21 rfl rfl)
theorem dX3_goes_186 : decode cX3_goes 186 = .ok (.iload_n 1, 1) := dk_27 (dk_at dksX3_goes_7 23 rfl rfl)
theorem dX3_goes_187 : decode cX3_goes 187 = .ok (.imul, 1) := dk_104 (dk_at dksX3_goes_8 0 rfl rfl)
theorem dX3_goes_188 : decode cX3_goes 188 = .ok (.aload_n 0, 1) := dk_42 (dk_at dksX3_goes_8 1 rfl rfl)
theorem dX3_goes_189 : decode cX3_goes 189 = .ok (.getfield 28, 3) := dk_180 0 28 (dk_at dksX3_goes_8 2 rfl rfl)
theorem dX3_goes_192 : decode cX3_goes 192 = .ok (.bipush 6, 2) := dk_16 6 (dk_at dksX3_goes_8 5 rfl rfl)
theorem dX3_goes_194 : decode cX3_goes 194 = .ok (.iload_n 1, 1) := dk_27 (dk_at dksX3_goes_8 7 rfl rfl)
theorem dX3_goes_195 : decode cX3_goes 195 = .ok (.iconst 1, 1) := dk_4 (dk_at dksX3_goes_8 8 rfl rfl)
theorem dX3_goes_196 : decode cX3_goes 196 = .ok (.iadd, 1) := dk_96 (dk_at dksX3_goes_8 9 rfl rfl)
theorem dX3_goes_197 : decode cX3_goes 197 = .ok (.imul, 1) := dk_104 (dk_at dksX3_goes_8 10 rfl rfl)
theorem dX3_goes_198 : decode cX3_goes 198 = .ok (.bipush 6, 2) := dk_16 6 (dk_at dksX3_goes_8 11 rfl rfl)
theorem dX3_goes_200 : decode cX3_goes 200 = .ok (.invokestatic 151, 3) := dk_184 0 151 (dk_at dksX3_goes_8 13 rfl rfl)
theorem dX3_goes_203 : decode cX3_goes 203 = .ok (.iconst 0, 1) := dk_3 (dk_at dksX3_goes_8 16 rfl rfl)
theorem dX3_goes_204 : decode cX3_goes 204 = .ok (.istore_n 2, 1) := dk_61 (dk_at dksX3_goes_8 17 rfl rfl)
theorem dX3_goes_205 : decode cX3_goes 205 = .ok (.iload_n 2, 1) := dk_28 (dk_at dksX3_goes_8 18 rfl rfl)
theorem dX3_goes_206 : decode cX3_goes 206 = .ok (.aload_n 0, 1) := dk_42 (dk_at dksX3_goes_8 19 rfl rfl)
theorem dX3_goes_207 : decode cX3_goes 207 = .ok (.getfield 3, 3) := dk_180 0 3 (dk_at dksX3_goes_8 20 rfl rfl)
theorem dX3_goes_210 : decode cX3_goes 210 = .ok (.invokevirtual 104, 3) := dk_182 0 104 (dk_at dksX3_goes_9 0 rfl rfl)
theorem dX3_goes_213 : decode cX3_goes 213 = .ok (.if_icmp .ge 43, 3) := dk_162 0 43 (dk_at dksX3_goes_9 3 rfl rfl)
theorem dX3_goes_216 : decode cX3_goes 216 = .ok (.aload_n 0, 1) := dk_42 (dk_at dksX3_goes_9 6 rfl rfl)
theorem dX3_goes_217 : decode cX3_goes 217 = .ok (.getfield 3, 3) := dk_180 0 3 (dk_at dksX3_goes_9 7 rfl rfl)
theorem dX3_goes_220 : decode cX3_goes 220 = .ok (.iload_n 2, 1) := dk_28 (dk_at dksX3_goes_9 10 rfl rfl)
theorem dX3_goes_221 : decode cX3_goes 221 = .ok (.invokevirtual 108, 3) := dk_182 0 108 (dk_at dksX3_goes_9 11 rfl rfl)
theorem dX3_goes_224 : decode cX3_goes 224 = .ok (.getfield 157, 3) := dk_180 0 157 (dk_at dksX3_goes_9 14 rfl rfl)
theorem dX3_goes_227 : decode cX3_goes 227 = .ok (.iload_n 1, 1) := dk_27 (dk_at dksX3_goes_9 17 rfl rfl)
theorem dX3_goes_228 : decode cX3_goes 228 = .ok (.if_icmp .ne 22, 3) := dk_160 0 22 (dk_at dksX3_goes_9 18 rfl rfl)
theorem dX3_goes_231 : decode cX3_goes 231 = .ok (.aload_n 0, 1) := dk_42 (dk_at dksX3_goes_9 21 rfl rfl)
theorem dX3_goes_232 : decode cX3_goes 232 = .ok (.getfield 64, 3) := dk_180 0 64 (dk_at dksX3_goes_10 0 rfl rfl)
theorem dX3_goes_235 : decode cX3_goes 235 = .ok (.iload_n 2, 1) := dk_28 (dk_at dksX3_goes_10 3 rfl rfl)
theorem dX3_goes_236 : decode cX3_goes 236 = .ok (.invokestatic 160, 3) := dk_184 0 160 (dk_at dksX3_goes_10 4 rfl rfl)
theorem dX3_goes_239 : decode cX3_goes 239 = .ok (.ifCond .ne 11, 3) := dk_154 0 11 (dk_at dksX3_goes_10 7 rfl rfl)
theorem dX3_goes_242 : decode cX3_goes 242 = .ok (.aload_n 0, 1) := dk_42 (dk_at dksX3_goes_10 10 rfl rfl)
theorem dX3_goes_243 : decode cX3_goes 243 = .ok (.iload_n 2, 1) := dk_28 (dk_at dksX3_goes_10 11 rfl rfl)
theorem dX3_goes_244 : decode cX3_goes 244 = .ok (.iload_n 1, 1) := dk_27 (dk_at dksX3_goes_10 12 rfl rfl)
theorem dX3_goes_245 : decode cX3_goes 245 = .ok (.iconst 1, 1) := dk_4 (dk_at dksX3_goes_10 13 rfl rfl)
theorem dX3_goes_246 : decode cX3_goes 246 = .ok (.iadd, 1) := dk_96 (dk_at dksX3_goes_10 14 rfl rfl)
theorem dX3_goes_247 : decode cX3_goes 247 = .ok (.invokevirtual 164, 3) := dk_182 0 164 (dk_at dksX3_goes_10 15 rfl rfl)
theorem dX3_goes_250 : decode cX3_goes 250 = .ok (.iinc 2 1, 3) := dk_132 2 1 (dk_at dksX3_goes_10 18 rfl rfl)
theorem dX3_goes_253 : decode cX3_goes 253 = .ok (.goto (-48), 3) := dk_167 255 208 (dk_at dksX3_goes_10 21 rfl rfl)
theorem dX3_goes_256 : decode cX3_goes 256 = .ok (.iinc 1 1, 3) := dk_132 1 1 (dk_at dksX3_goes_11 0 rfl rfl)
theorem dX3_goes_259 : decode cX3_goes 259 = .ok (.goto (-139), 3) := dk_167 255 117 (dk_at dksX3_goes_11 3 rfl rfl)
theorem dX3_goes_262 : decode cX3_goes 262 = .ok (.aload_n 0, 1) := dk_42 (dk_at dksX3_goes_11 6 rfl rfl)
theorem dX3_goes_263 : decode cX3_goes 263 = .ok (.areturn, 1) := dk_176 (dk_at dksX3_goes_11 7 rfl rfl)
abbrev cX3_walks : ByteArray := prog_8_method_7_code
def yX3_walks : MethodName := ⟨RX3, "walks", "(II)V"⟩
def dkwX3_walks_18 : List UInt8 := [22, 6, 129, 181, 0, 119, 42, 89, 180, 0, 122, 22, 8, 129, 181, 0, 122, 42, 27, 28, 182, 0, 202, 177]
abbrev dktX3_walks_18 : List UInt8 := dkwX3_walks_18 ++ []
def dkwX3_walks_17 : List UInt8 := [167, 254, 178, 42, 89, 180, 0, 116, 42, 180, 0, 50, 27, 47, 129, 181, 0, 116, 42, 89, 180, 0, 119]
abbrev dktX3_walks_17 : List UInt8 := dkwX3_walks_17 ++ dktX3_walks_18
def dkwX3_walks_16 : List UInt8 := [180, 0, 19, 27, 46, 104, 27, 96, 21, 4, 79, 21, 14, 153, 0, 6, 167, 0, 9, 132, 10, 1]
abbrev dktX3_walks_16 : List UInt8 := dkwX3_walks_16 ++ dktX3_walks_17
def dkwX3_walks_15 : List UInt8 := [10, 21, 4, 121, 129, 80, 42, 180, 0, 19, 27, 92, 46, 4, 96, 79, 42, 180, 0, 15, 16, 7, 42]
abbrev dktX3_walks_15 : List UInt8 := dkwX3_walks_15 ++ dktX3_walks_16
def dkwX3_walks_14 : List UInt8 := [184, 0, 168, 153, 0, 7, 4, 167, 0, 4, 3, 54, 14, 21, 13, 54, 4, 42, 180, 0, 50, 27, 92, 47]
abbrev dktX3_walks_14 : List UInt8 := dkwX3_walks_14 ++ dktX3_walks_15
def dkwX3_walks_13 : List UInt8 := [55, 8, 42, 180, 0, 63, 6, 160, 0, 26, 21, 13, 21, 4, 159, 0, 19, 42, 180, 0, 116, 21, 13]
abbrev dktX3_walks_13 : List UInt8 := dkwX3_walks_13 ++ dktX3_walks_14
def dkwX3_walks_12 : List UInt8 := [21, 13, 184, 0, 197, 121, 129, 55, 6, 167, 0, 17, 22, 8, 10, 21, 4, 21, 13, 184, 0, 197, 121, 129]
abbrev dktX3_walks_12 : List UInt8 := dkwX3_walks_12 ++ dktX3_walks_13
def dkwX3_walks_11 : List UInt8 := [21, 5, 4, 96, 7, 112, 54, 5, 167, 0, 42, 21, 5, 5, 112, 4, 160, 0, 20, 22, 6, 10, 21, 4]
abbrev dktX3_walks_11 : List UInt8 := dkwX3_walks_11 ++ dktX3_walks_12
def dkwX3_walks_10 : List UInt8 := [167, 0, 5, 21, 4, 54, 13, 21, 13, 21, 4, 160, 0, 24, 42, 180, 0, 22, 27, 92, 46, 4, 96, 79]
abbrev dktX3_walks_10 : List UInt8 := dkwX3_walks_10 ++ dktX3_walks_11
def dkwX3_walks_9 : List UInt8 := [21, 5, 182, 0, 176, 22, 11, 182, 0, 180, 153, 0, 17, 42, 180, 0, 3, 21, 4, 21, 5, 182, 0, 176]
abbrev dktX3_walks_9 : List UInt8 := dkwX3_walks_9 ++ dktX3_walks_10
def dkwX3_walks_8 : List UInt8 := [154, 0, 17, 21, 5, 4, 96, 7, 112, 54, 5, 132, 13, 1, 167, 255, 219, 42, 42, 180, 0, 3, 21, 4]
abbrev dktX3_walks_8 : List UInt8 := dkwX3_walks_8 ++ dktX3_walks_9
def dkwX3_walks_7 : List UInt8 := [21, 13, 6, 162, 0, 37, 42, 42, 180, 0, 3, 21, 4, 21, 5, 182, 0, 176, 22, 11, 182, 0, 180]
abbrev dktX3_walks_7 : List UInt8 := dkwX3_walks_7 ++ dktX3_walks_8
def dkwX3_walks_6 : List UInt8 := [167, 0, 4, 9, 55, 11, 42, 21, 4, 22, 11, 182, 0, 194, 154, 0, 6, 9, 55, 11, 3, 54, 13]
abbrev dktX3_walks_6 : List UInt8 := dkwX3_walks_6 ++ dktX3_walks_7
def dkwX3_walks_5 : List UInt8 := [160, 0, 10, 42, 180, 0, 116, 167, 0, 21, 42, 180, 0, 63, 5, 160, 0, 12, 42, 180, 0, 50, 27, 47]
abbrev dktX3_walks_5 : List UInt8 := dkwX3_walks_5 ++ dktX3_walks_6
def dkwX3_walks_4 : List UInt8 := [180, 0, 192, 112, 46, 167, 0, 9, 42, 180, 0, 37, 27, 46, 96, 7, 112, 54, 5, 42, 180, 0, 63, 4]
abbrev dktX3_walks_4 : List UInt8 := dkwX3_walks_4 ++ dktX3_walks_5
def dkwX3_walks_3 : List UInt8 := [162, 1, 75, 21, 5, 42, 180, 0, 37, 27, 46, 2, 160, 0, 18, 45, 180, 0, 189, 21, 10, 45]
abbrev dktX3_walks_3 : List UInt8 := dkwX3_walks_3 ++ dktX3_walks_4
def dkwX3_walks_2 : List UInt8 := [42, 180, 0, 22, 27, 3, 79, 9, 55, 6, 9, 55, 8, 3, 54, 10, 21, 10, 45, 180, 0, 187]
abbrev dktX3_walks_2 : List UInt8 := dkwX3_walks_2 ++ dktX3_walks_3
def dkwX3_walks_1 : List UInt8 := [180, 0, 15, 27, 21, 4, 79, 42, 180, 0, 50, 27, 10, 21, 4, 121, 80, 42, 180, 0, 19, 27, 3, 79]
abbrev dktX3_walks_1 : List UInt8 := dkwX3_walks_1 ++ dktX3_walks_2
def dkwX3_walks_0 : List UInt8 := [42, 180, 0, 3, 27, 182, 0, 108, 78, 45, 180, 0, 184, 54, 4, 42, 180, 0, 34, 27, 46, 54, 5, 42]
abbrev dktX3_walks_0 : List UInt8 := dkwX3_walks_0 ++ dktX3_walks_1
theorem dksX3_walks_0 : cX3_walks.data.toList.drop 0 = dktX3_walks_0 := by decide +kernel
theorem dksX3_walks_1 : cX3_walks.data.toList.drop 24 = dktX3_walks_1 := dk_seg dksX3_walks_0 24 rfl rfl
theorem dksX3_walks_2 : cX3_walks.data.toList.drop 48 = dktX3_walks_2 := dk_seg dksX3_walks_1 24 rfl rfl
theorem dksX3_walks_3 : cX3_walks.data.toList.drop 70 = dktX3_walks_3 := dk_seg dksX3_walks_2 22 rfl rfl
theorem dksX3_walks_4 : cX3_walks.data.toList.drop 92 = dktX3_walks_4 := dk_seg dksX3_walks_3 22 rfl rfl
theorem dksX3_walks_5 : cX3_walks.data.toList.drop 116 = dktX3_walks_5 := dk_seg dksX3_walks_4 24 rfl rfl
theorem dksX3_walks_6 : cX3_walks.data.toList.drop 140 = dktX3_walks_6 := dk_seg dksX3_walks_5 24 rfl rfl
theorem dksX3_walks_7 : cX3_walks.data.toList.drop 163 = dktX3_walks_7 := dk_seg dksX3_walks_6 23 rfl rfl
theorem dksX3_walks_8 : cX3_walks.data.toList.drop 186 = dktX3_walks_8 := dk_seg dksX3_walks_7 23 rfl rfl
theorem dksX3_walks_9 : cX3_walks.data.toList.drop 210 = dktX3_walks_9 := dk_seg dksX3_walks_8 24 rfl rfl
theorem dksX3_walks_10 : cX3_walks.data.toList.drop 234 = dktX3_walks_10 := dk_seg dksX3_walks_9 24 rfl rfl
theorem dksX3_walks_11 : cX3_walks.data.toList.drop 258 = dktX3_walks_11 := dk_seg dksX3_walks_10 24 rfl rfl
theorem dksX3_walks_12 : cX3_walks.data.toList.drop 282 = dktX3_walks_12 := dk_seg dksX3_walks_11 24 rfl rfl
theorem dksX3_walks_13 : cX3_walks.data.toList.drop 306 = dktX3_walks_13 := dk_seg dksX3_walks_12 24 rfl rfl
theorem dksX3_walks_14 : cX3_walks.data.toList.drop 329 = dktX3_walks_14 := dk_seg dksX3_walks_13 23 rfl rfl
theorem dksX3_walks_15 : cX3_walks.data.toList.drop 353 = dktX3_walks_15 := dk_seg dksX3_walks_14 24 rfl rfl
theorem dksX3_walks_16 : cX3_walks.data.toList.drop 376 = dktX3_walks_16 := dk_seg dksX3_walks_15 23 rfl rfl
theorem dksX3_walks_17 : cX3_walks.data.toList.drop 398 = dktX3_walks_17 := dk_seg dksX3_walks_16 22 rfl rfl
theorem dksX3_walks_18 : cX3_walks.data.toList.drop 421 = dktX3_walks_18 := dk_seg dksX3_walks_17 23 rfl rfl
theorem dX3_walks_0 : decode cX3_walks 0 = .ok (.aload_n 0, 1) := dk_42 (dk_at dksX3_walks_0 0 rfl rfl)
theorem dX3_walks_1 : decode cX3_walks 1 = .ok (.getfield 3, 3) := dk_180 0 3 (dk_at dksX3_walks_0 1 rfl rfl)
theorem dX3_walks_4 : decode cX3_walks 4 = .ok (.iload_n 1, 1) := dk_27 (dk_at dksX3_walks_0 4 rfl rfl)
theorem dX3_walks_5 : decode cX3_walks 5 = .ok (.invokevirtual 108, 3) := dk_182 0 108 (dk_at dksX3_walks_0 5 rfl rfl)
theorem dX3_walks_8 : decode cX3_walks 8 = .ok (.astore_n 3, 1) := dk_78 (dk_at dksX3_walks_0 8 rfl rfl)
theorem dX3_walks_9 : decode cX3_walks 9 = .ok (.aload_n 3, 1) := dk_45 (dk_at dksX3_walks_0 9 rfl rfl)
theorem dX3_walks_10 : decode cX3_walks 10 = .ok (.getfield 184, 3) := dk_180 0 184 (dk_at dksX3_walks_0 10 rfl rfl)
theorem dX3_walks_13 : decode cX3_walks 13 = .ok (.istore 4, 2) := dk_54 4 (dk_at dksX3_walks_0 13 rfl rfl)
theorem dX3_walks_15 : decode cX3_walks 15 = .ok (.aload_n 0, 1) := dk_42 (dk_at dksX3_walks_0 15 rfl rfl)
theorem dX3_walks_16 : decode cX3_walks 16 = .ok (.getfield 34, 3) := dk_180 0 34 (dk_at dksX3_walks_0 16 rfl rfl)
theorem dX3_walks_19 : decode cX3_walks 19 = .ok (.iload_n 1, 1) := dk_27 (dk_at dksX3_walks_0 19 rfl rfl)
theorem dX3_walks_20 : decode cX3_walks 20 = .ok (.iaload, 1) := dk_46 (dk_at dksX3_walks_0 20 rfl rfl)
theorem dX3_walks_21 : decode cX3_walks 21 = .ok (.istore 5, 2) := dk_54 5 (dk_at dksX3_walks_0 21 rfl rfl)
theorem dX3_walks_23 : decode cX3_walks 23 = .ok (.aload_n 0, 1) := dk_42 (dk_at dksX3_walks_0 23 rfl rfl)
theorem dX3_walks_24 : decode cX3_walks 24 = .ok (.getfield 15, 3) := dk_180 0 15 (dk_at dksX3_walks_1 0 rfl rfl)
theorem dX3_walks_27 : decode cX3_walks 27 = .ok (.iload_n 1, 1) := dk_27 (dk_at dksX3_walks_1 3 rfl rfl)
theorem dX3_walks_28 : decode cX3_walks 28 = .ok (.iload 4, 2) := dk_21 4 (dk_at dksX3_walks_1 4 rfl rfl)
theorem dX3_walks_30 : decode cX3_walks 30 = .ok (.iastore, 1) := dk_79 (dk_at dksX3_walks_1 6 rfl rfl)
theorem dX3_walks_31 : decode cX3_walks 31 = .ok (.aload_n 0, 1) := dk_42 (dk_at dksX3_walks_1 7 rfl rfl)
theorem dX3_walks_32 : decode cX3_walks 32 = .ok (.getfield 50, 3) := dk_180 0 50 (dk_at dksX3_walks_1 8 rfl rfl)
theorem dX3_walks_35 : decode cX3_walks 35 = .ok (.iload_n 1, 1) := dk_27 (dk_at dksX3_walks_1 11 rfl rfl)
theorem dX3_walks_36 : decode cX3_walks 36 = .ok (.lconst 1, 1) := dk_10 (dk_at dksX3_walks_1 12 rfl rfl)
theorem dX3_walks_37 : decode cX3_walks 37 = .ok (.iload 4, 2) := dk_21 4 (dk_at dksX3_walks_1 13 rfl rfl)
theorem dX3_walks_39 : decode cX3_walks 39 = .ok (.lshl, 1) := dk_121 (dk_at dksX3_walks_1 15 rfl rfl)
theorem dX3_walks_40 : decode cX3_walks 40 = .ok (.lastore, 1) := dk_80 (dk_at dksX3_walks_1 16 rfl rfl)
theorem dX3_walks_41 : decode cX3_walks 41 = .ok (.aload_n 0, 1) := dk_42 (dk_at dksX3_walks_1 17 rfl rfl)
theorem dX3_walks_42 : decode cX3_walks 42 = .ok (.getfield 19, 3) := dk_180 0 19 (dk_at dksX3_walks_1 18 rfl rfl)
theorem dX3_walks_45 : decode cX3_walks 45 = .ok (.iload_n 1, 1) := dk_27 (dk_at dksX3_walks_1 21 rfl rfl)
theorem dX3_walks_46 : decode cX3_walks 46 = .ok (.iconst 0, 1) := dk_3 (dk_at dksX3_walks_1 22 rfl rfl)
theorem dX3_walks_47 : decode cX3_walks 47 = .ok (.iastore, 1) := dk_79 (dk_at dksX3_walks_1 23 rfl rfl)
theorem dX3_walks_48 : decode cX3_walks 48 = .ok (.aload_n 0, 1) := dk_42 (dk_at dksX3_walks_2 0 rfl rfl)
theorem dX3_walks_49 : decode cX3_walks 49 = .ok (.getfield 22, 3) := dk_180 0 22 (dk_at dksX3_walks_2 1 rfl rfl)
theorem dX3_walks_52 : decode cX3_walks 52 = .ok (.iload_n 1, 1) := dk_27 (dk_at dksX3_walks_2 4 rfl rfl)
theorem dX3_walks_53 : decode cX3_walks 53 = .ok (.iconst 0, 1) := dk_3 (dk_at dksX3_walks_2 5 rfl rfl)
theorem dX3_walks_54 : decode cX3_walks 54 = .ok (.iastore, 1) := dk_79 (dk_at dksX3_walks_2 6 rfl rfl)
theorem dX3_walks_55 : decode cX3_walks 55 = .ok (.lconst 0, 1) := dk_9 (dk_at dksX3_walks_2 7 rfl rfl)
theorem dX3_walks_56 : decode cX3_walks 56 = .ok (.lstore 6, 2) := dk_55 6 (dk_at dksX3_walks_2 8 rfl rfl)
theorem dX3_walks_58 : decode cX3_walks 58 = .ok (.lconst 0, 1) := dk_9 (dk_at dksX3_walks_2 10 rfl rfl)
theorem dX3_walks_59 : decode cX3_walks 59 = .ok (.lstore 8, 2) := dk_55 8 (dk_at dksX3_walks_2 11 rfl rfl)
theorem dX3_walks_61 : decode cX3_walks 61 = .ok (.iconst 0, 1) := dk_3 (dk_at dksX3_walks_2 13 rfl rfl)
theorem dX3_walks_62 : decode cX3_walks 62 = .ok (.istore 10, 2) := dk_54 10 (dk_at dksX3_walks_2 14 rfl rfl)
theorem dX3_walks_64 : decode cX3_walks 64 = .ok (.iload 10, 2) := dk_21 10 (dk_at dksX3_walks_2 16 rfl rfl)
theorem dX3_walks_66 : decode cX3_walks 66 = .ok (.aload_n 3, 1) := dk_45 (dk_at dksX3_walks_2 18 rfl rfl)
theorem dX3_walks_67 : decode cX3_walks 67 = .ok (.getfield 187, 3) := dk_180 0 187 (dk_at dksX3_walks_2 19 rfl rfl)
theorem dX3_walks_70 : decode cX3_walks 70 = .ok (.if_icmp .ge 331, 3) := dk_162 1 75 (dk_at dksX3_walks_3 0 rfl rfl)
theorem dX3_walks_73 : decode cX3_walks 73 = .ok (.iload 5, 2) := dk_21 5 (dk_at dksX3_walks_3 3 rfl rfl)
theorem dX3_walks_75 : decode cX3_walks 75 = .ok (.aload_n 0, 1) := dk_42 (dk_at dksX3_walks_3 5 rfl rfl)
theorem dX3_walks_76 : decode cX3_walks 76 = .ok (.getfield 37, 3) := dk_180 0 37 (dk_at dksX3_walks_3 6 rfl rfl)
theorem dX3_walks_79 : decode cX3_walks 79 = .ok (.iload_n 1, 1) := dk_27 (dk_at dksX3_walks_3 9 rfl rfl)
theorem dX3_walks_80 : decode cX3_walks 80 = .ok (.iaload, 1) := dk_46 (dk_at dksX3_walks_3 10 rfl rfl)
theorem dX3_walks_81 : decode cX3_walks 81 = .ok (.iconst (-1), 1) := dk_2 (dk_at dksX3_walks_3 11 rfl rfl)
theorem dX3_walks_82 : decode cX3_walks 82 = .ok (.if_icmp .ne 18, 3) := dk_160 0 18 (dk_at dksX3_walks_3 12 rfl rfl)
theorem dX3_walks_85 : decode cX3_walks 85 = .ok (.aload_n 3, 1) := dk_45 (dk_at dksX3_walks_3 15 rfl rfl)
theorem dX3_walks_86 : decode cX3_walks 86 = .ok (.getfield 189, 3) := dk_180 0 189 (dk_at dksX3_walks_3 16 rfl rfl)
theorem dX3_walks_89 : decode cX3_walks 89 = .ok (.iload 10, 2) := dk_21 10 (dk_at dksX3_walks_3 19 rfl rfl)
theorem dX3_walks_91 : decode cX3_walks 91 = .ok (.aload_n 3, 1) := dk_45 (dk_at dksX3_walks_3 21 rfl rfl)
theorem dX3_walks_92 : decode cX3_walks 92 = .ok (.getfield 192, 3) := dk_180 0 192 (dk_at dksX3_walks_4 0 rfl rfl)
theorem dX3_walks_95 : decode cX3_walks 95 = .ok (.irem, 1) := dk_112 (dk_at dksX3_walks_4 3 rfl rfl)
theorem dX3_walks_96 : decode cX3_walks 96 = .ok (.iaload, 1) := dk_46 (dk_at dksX3_walks_4 4 rfl rfl)
theorem dX3_walks_97 : decode cX3_walks 97 = .ok (.goto 9, 3) := dk_167 0 9 (dk_at dksX3_walks_4 5 rfl rfl)
theorem dX3_walks_100 : decode cX3_walks 100 = .ok (.aload_n 0, 1) := dk_42 (dk_at dksX3_walks_4 8 rfl rfl)
theorem dX3_walks_101 : decode cX3_walks 101 = .ok (.getfield 37, 3) := dk_180 0 37 (dk_at dksX3_walks_4 9 rfl rfl)
theorem dX3_walks_104 : decode cX3_walks 104 = .ok (.iload_n 1, 1) := dk_27 (dk_at dksX3_walks_4 12 rfl rfl)
theorem dX3_walks_105 : decode cX3_walks 105 = .ok (.iaload, 1) := dk_46 (dk_at dksX3_walks_4 13 rfl rfl)
theorem dX3_walks_106 : decode cX3_walks 106 = .ok (.iadd, 1) := dk_96 (dk_at dksX3_walks_4 14 rfl rfl)
theorem dX3_walks_107 : decode cX3_walks 107 = .ok (.iconst 4, 1) := dk_7 (dk_at dksX3_walks_4 15 rfl rfl)
theorem dX3_walks_108 : decode cX3_walks 108 = .ok (.irem, 1) := dk_112 (dk_at dksX3_walks_4 16 rfl rfl)
theorem dX3_walks_109 : decode cX3_walks 109 = .ok (.istore 5, 2) := dk_54 5 (dk_at dksX3_walks_4 17 rfl rfl)
theorem dX3_walks_111 : decode cX3_walks 111 = .ok (.aload_n 0, 1) := dk_42 (dk_at dksX3_walks_4 19 rfl rfl)
theorem dX3_walks_112 : decode cX3_walks 112 = .ok (.getfield 63, 3) := dk_180 0 63 (dk_at dksX3_walks_4 20 rfl rfl)
theorem dX3_walks_115 : decode cX3_walks 115 = .ok (.iconst 1, 1) := dk_4 (dk_at dksX3_walks_4 23 rfl rfl)
theorem dX3_walks_116 : decode cX3_walks 116 = .ok (.if_icmp .ne 10, 3) := dk_160 0 10 (dk_at dksX3_walks_5 0 rfl rfl)
theorem dX3_walks_119 : decode cX3_walks 119 = .ok (.aload_n 0, 1) := dk_42 (dk_at dksX3_walks_5 3 rfl rfl)
theorem dX3_walks_120 : decode cX3_walks 120 = .ok (.getfield 116, 3) := dk_180 0 116 (dk_at dksX3_walks_5 4 rfl rfl)
theorem dX3_walks_123 : decode cX3_walks 123 = .ok (.goto 21, 3) := dk_167 0 21 (dk_at dksX3_walks_5 7 rfl rfl)
theorem dX3_walks_126 : decode cX3_walks 126 = .ok (.aload_n 0, 1) := dk_42 (dk_at dksX3_walks_5 10 rfl rfl)
theorem dX3_walks_127 : decode cX3_walks 127 = .ok (.getfield 63, 3) := dk_180 0 63 (dk_at dksX3_walks_5 11 rfl rfl)
theorem dX3_walks_130 : decode cX3_walks 130 = .ok (.iconst 2, 1) := dk_5 (dk_at dksX3_walks_5 14 rfl rfl)
theorem dX3_walks_131 : decode cX3_walks 131 = .ok (.if_icmp .ne 12, 3) := dk_160 0 12 (dk_at dksX3_walks_5 15 rfl rfl)
theorem dX3_walks_134 : decode cX3_walks 134 = .ok (.aload_n 0, 1) := dk_42 (dk_at dksX3_walks_5 18 rfl rfl)
theorem dX3_walks_135 : decode cX3_walks 135 = .ok (.getfield 50, 3) := dk_180 0 50 (dk_at dksX3_walks_5 19 rfl rfl)
theorem dX3_walks_138 : decode cX3_walks 138 = .ok (.iload_n 1, 1) := dk_27 (dk_at dksX3_walks_5 22 rfl rfl)
theorem dX3_walks_139 : decode cX3_walks 139 = .ok (.laload, 1) := dk_47 (dk_at dksX3_walks_5 23 rfl rfl)
theorem dX3_walks_140 : decode cX3_walks 140 = .ok (.goto 4, 3) := dk_167 0 4 (dk_at dksX3_walks_6 0 rfl rfl)
theorem dX3_walks_143 : decode cX3_walks 143 = .ok (.lconst 0, 1) := dk_9 (dk_at dksX3_walks_6 3 rfl rfl)
theorem dX3_walks_144 : decode cX3_walks 144 = .ok (.lstore 11, 2) := dk_55 11 (dk_at dksX3_walks_6 4 rfl rfl)
theorem dX3_walks_146 : decode cX3_walks 146 = .ok (.aload_n 0, 1) := dk_42 (dk_at dksX3_walks_6 6 rfl rfl)
theorem dX3_walks_147 : decode cX3_walks 147 = .ok (.iload 4, 2) := dk_21 4 (dk_at dksX3_walks_6 7 rfl rfl)
theorem dX3_walks_149 : decode cX3_walks 149 = .ok (.lload 11, 2) := dk_22 11 (dk_at dksX3_walks_6 9 rfl rfl)
theorem dX3_walks_151 : decode cX3_walks 151 = .ok (.invokevirtual 194, 3) := dk_182 0 194 (dk_at dksX3_walks_6 11 rfl rfl)
theorem dX3_walks_154 : decode cX3_walks 154 = .ok (.ifCond .ne 6, 3) := dk_154 0 6 (dk_at dksX3_walks_6 14 rfl rfl)
theorem dX3_walks_157 : decode cX3_walks 157 = .ok (.lconst 0, 1) := dk_9 (dk_at dksX3_walks_6 17 rfl rfl)
theorem dX3_walks_158 : decode cX3_walks 158 = .ok (.lstore 11, 2) := dk_55 11 (dk_at dksX3_walks_6 18 rfl rfl)
theorem dX3_walks_160 : decode cX3_walks 160 = .ok (.iconst 0, 1) := dk_3 (dk_at dksX3_walks_6 20 rfl rfl)
theorem dX3_walks_161 : decode cX3_walks 161 = .ok (.istore 13, 2) := dk_54 13 (dk_at dksX3_walks_6 21 rfl rfl)
theorem dX3_walks_163 : decode cX3_walks 163 = .ok (.iload 13, 2) := dk_21 13 (dk_at dksX3_walks_7 0 rfl rfl)
theorem dX3_walks_165 : decode cX3_walks 165 = .ok (.iconst 3, 1) := dk_6 (dk_at dksX3_walks_7 2 rfl rfl)
theorem dX3_walks_166 : decode cX3_walks 166 = .ok (.if_icmp .ge 37, 3) := dk_162 0 37 (dk_at dksX3_walks_7 3 rfl rfl)
theorem dX3_walks_169 : decode cX3_walks 169 = .ok (.aload_n 0, 1) := dk_42 (dk_at dksX3_walks_7 6 rfl rfl)
theorem dX3_walks_170 : decode cX3_walks 170 = .ok (.aload_n 0, 1) := dk_42 (dk_at dksX3_walks_7 7 rfl rfl)
theorem dX3_walks_171 : decode cX3_walks 171 = .ok (.getfield 3, 3) := dk_180 0 3 (dk_at dksX3_walks_7 8 rfl rfl)
theorem dX3_walks_174 : decode cX3_walks 174 = .ok (.iload 4, 2) := dk_21 4 (dk_at dksX3_walks_7 11 rfl rfl)
theorem dX3_walks_176 : decode cX3_walks 176 = .ok (.iload 5, 2) := dk_21 5 (dk_at dksX3_walks_7 13 rfl rfl)
theorem dX3_walks_178 : decode cX3_walks 178 = .ok (.invokevirtual 176, 3) := dk_182 0 176 (dk_at dksX3_walks_7 15 rfl rfl)
theorem dX3_walks_181 : decode cX3_walks 181 = .ok (.lload 11, 2) := dk_22 11 (dk_at dksX3_walks_7 18 rfl rfl)
theorem dX3_walks_183 : decode cX3_walks 183 = .ok (.invokevirtual 180, 3) := dk_182 0 180 (dk_at dksX3_walks_7 20 rfl rfl)
theorem dX3_walks_186 : decode cX3_walks 186 = .ok (.ifCond .ne 17, 3) := dk_154 0 17 (dk_at dksX3_walks_8 0 rfl rfl)
theorem dX3_walks_189 : decode cX3_walks 189 = .ok (.iload 5, 2) := dk_21 5 (dk_at dksX3_walks_8 3 rfl rfl)
theorem dX3_walks_191 : decode cX3_walks 191 = .ok (.iconst 1, 1) := dk_4 (dk_at dksX3_walks_8 5 rfl rfl)
theorem dX3_walks_192 : decode cX3_walks 192 = .ok (.iadd, 1) := dk_96 (dk_at dksX3_walks_8 6 rfl rfl)
theorem dX3_walks_193 : decode cX3_walks 193 = .ok (.iconst 4, 1) := dk_7 (dk_at dksX3_walks_8 7 rfl rfl)
theorem dX3_walks_194 : decode cX3_walks 194 = .ok (.irem, 1) := dk_112 (dk_at dksX3_walks_8 8 rfl rfl)
theorem dX3_walks_195 : decode cX3_walks 195 = .ok (.istore 5, 2) := dk_54 5 (dk_at dksX3_walks_8 9 rfl rfl)
theorem dX3_walks_197 : decode cX3_walks 197 = .ok (.iinc 13 1, 3) := dk_132 13 1 (dk_at dksX3_walks_8 11 rfl rfl)
theorem dX3_walks_200 : decode cX3_walks 200 = .ok (.goto (-37), 3) := dk_167 255 219 (dk_at dksX3_walks_8 14 rfl rfl)
theorem dX3_walks_203 : decode cX3_walks 203 = .ok (.aload_n 0, 1) := dk_42 (dk_at dksX3_walks_8 17 rfl rfl)
theorem dX3_walks_204 : decode cX3_walks 204 = .ok (.aload_n 0, 1) := dk_42 (dk_at dksX3_walks_8 18 rfl rfl)
theorem dX3_walks_205 : decode cX3_walks 205 = .ok (.getfield 3, 3) := dk_180 0 3 (dk_at dksX3_walks_8 19 rfl rfl)
theorem dX3_walks_208 : decode cX3_walks 208 = .ok (.iload 4, 2) := dk_21 4 (dk_at dksX3_walks_8 22 rfl rfl)
theorem dX3_walks_210 : decode cX3_walks 210 = .ok (.iload 5, 2) := dk_21 5 (dk_at dksX3_walks_9 0 rfl rfl)
theorem dX3_walks_212 : decode cX3_walks 212 = .ok (.invokevirtual 176, 3) := dk_182 0 176 (dk_at dksX3_walks_9 2 rfl rfl)
theorem dX3_walks_215 : decode cX3_walks 215 = .ok (.lload 11, 2) := dk_22 11 (dk_at dksX3_walks_9 5 rfl rfl)
theorem dX3_walks_217 : decode cX3_walks 217 = .ok (.invokevirtual 180, 3) := dk_182 0 180 (dk_at dksX3_walks_9 7 rfl rfl)
theorem dX3_walks_220 : decode cX3_walks 220 = .ok (.ifCond .eq 17, 3) := dk_153 0 17 (dk_at dksX3_walks_9 10 rfl rfl)
theorem dX3_walks_223 : decode cX3_walks 223 = .ok (.aload_n 0, 1) := dk_42 (dk_at dksX3_walks_9 13 rfl rfl)
theorem dX3_walks_224 : decode cX3_walks 224 = .ok (.getfield 3, 3) := dk_180 0 3 (dk_at dksX3_walks_9 14 rfl rfl)
theorem dX3_walks_227 : decode cX3_walks 227 = .ok (.iload 4, 2) := dk_21 4 (dk_at dksX3_walks_9 17 rfl rfl)
theorem dX3_walks_229 : decode cX3_walks 229 = .ok (.iload 5, 2) := dk_21 5 (dk_at dksX3_walks_9 19 rfl rfl)
theorem dX3_walks_231 : decode cX3_walks 231 = .ok (.invokevirtual 176, 3) := dk_182 0 176 (dk_at dksX3_walks_9 21 rfl rfl)
theorem dX3_walks_234 : decode cX3_walks 234 = .ok (.goto 5, 3) := dk_167 0 5 (dk_at dksX3_walks_10 0 rfl rfl)
theorem dX3_walks_237 : decode cX3_walks 237 = .ok (.iload 4, 2) := dk_21 4 (dk_at dksX3_walks_10 3 rfl rfl)
theorem dX3_walks_239 : decode cX3_walks 239 = .ok (.istore 13, 2) := dk_54 13 (dk_at dksX3_walks_10 5 rfl rfl)
theorem dX3_walks_241 : decode cX3_walks 241 = .ok (.iload 13, 2) := dk_21 13 (dk_at dksX3_walks_10 7 rfl rfl)
theorem dX3_walks_243 : decode cX3_walks 243 = .ok (.iload 4, 2) := dk_21 4 (dk_at dksX3_walks_10 9 rfl rfl)
theorem dX3_walks_245 : decode cX3_walks 245 = .ok (.if_icmp .ne 24, 3) := dk_160 0 24 (dk_at dksX3_walks_10 11 rfl rfl)
theorem dX3_walks_248 : decode cX3_walks 248 = .ok (.aload_n 0, 1) := dk_42 (dk_at dksX3_walks_10 14 rfl rfl)
theorem dX3_walks_249 : decode cX3_walks 249 = .ok (.getfield 22, 3) := dk_180 0 22 (dk_at dksX3_walks_10 15 rfl rfl)
theorem dX3_walks_252 : decode cX3_walks 252 = .ok (.iload_n 1, 1) := dk_27 (dk_at dksX3_walks_10 18 rfl rfl)
theorem dX3_walks_253 : decode cX3_walks 253 = .ok (.dup2, 1) := dk_92 (dk_at dksX3_walks_10 19 rfl rfl)
theorem dX3_walks_254 : decode cX3_walks 254 = .ok (.iaload, 1) := dk_46 (dk_at dksX3_walks_10 20 rfl rfl)
theorem dX3_walks_255 : decode cX3_walks 255 = .ok (.iconst 1, 1) := dk_4 (dk_at dksX3_walks_10 21 rfl rfl)
theorem dX3_walks_256 : decode cX3_walks 256 = .ok (.iadd, 1) := dk_96 (dk_at dksX3_walks_10 22 rfl rfl)
theorem dX3_walks_257 : decode cX3_walks 257 = .ok (.iastore, 1) := dk_79 (dk_at dksX3_walks_10 23 rfl rfl)
theorem dX3_walks_258 : decode cX3_walks 258 = .ok (.iload 5, 2) := dk_21 5 (dk_at dksX3_walks_11 0 rfl rfl)
theorem dX3_walks_260 : decode cX3_walks 260 = .ok (.iconst 1, 1) := dk_4 (dk_at dksX3_walks_11 2 rfl rfl)
theorem dX3_walks_261 : decode cX3_walks 261 = .ok (.iadd, 1) := dk_96 (dk_at dksX3_walks_11 3 rfl rfl)
theorem dX3_walks_262 : decode cX3_walks 262 = .ok (.iconst 4, 1) := dk_7 (dk_at dksX3_walks_11 4 rfl rfl)
theorem dX3_walks_263 : decode cX3_walks 263 = .ok (.irem, 1) := dk_112 (dk_at dksX3_walks_11 5 rfl rfl)
theorem dX3_walks_264 : decode cX3_walks 264 = .ok (.istore 5, 2) := dk_54 5 (dk_at dksX3_walks_11 6 rfl rfl)
theorem dX3_walks_266 : decode cX3_walks 266 = .ok (.goto 42, 3) := dk_167 0 42 (dk_at dksX3_walks_11 8 rfl rfl)
theorem dX3_walks_269 : decode cX3_walks 269 = .ok (.iload 5, 2) := dk_21 5 (dk_at dksX3_walks_11 11 rfl rfl)
theorem dX3_walks_271 : decode cX3_walks 271 = .ok (.iconst 2, 1) := dk_5 (dk_at dksX3_walks_11 13 rfl rfl)
theorem dX3_walks_272 : decode cX3_walks 272 = .ok (.irem, 1) := dk_112 (dk_at dksX3_walks_11 14 rfl rfl)
theorem dX3_walks_273 : decode cX3_walks 273 = .ok (.iconst 1, 1) := dk_4 (dk_at dksX3_walks_11 15 rfl rfl)
theorem dX3_walks_274 : decode cX3_walks 274 = .ok (.if_icmp .ne 20, 3) := dk_160 0 20 (dk_at dksX3_walks_11 16 rfl rfl)
theorem dX3_walks_277 : decode cX3_walks 277 = .ok (.lload 6, 2) := dk_22 6 (dk_at dksX3_walks_11 19 rfl rfl)
theorem dX3_walks_279 : decode cX3_walks 279 = .ok (.lconst 1, 1) := dk_10 (dk_at dksX3_walks_11 21 rfl rfl)
theorem dX3_walks_280 : decode cX3_walks 280 = .ok (.iload 4, 2) := dk_21 4 (dk_at dksX3_walks_11 22 rfl rfl)
theorem dX3_walks_282 : decode cX3_walks 282 = .ok (.iload 13, 2) := dk_21 13 (dk_at dksX3_walks_12 0 rfl rfl)
theorem dX3_walks_284 : decode cX3_walks 284 = .ok (.invokestatic 197, 3) := dk_184 0 197 (dk_at dksX3_walks_12 2 rfl rfl)
theorem dX3_walks_287 : decode cX3_walks 287 = .ok (.lshl, 1) := dk_121 (dk_at dksX3_walks_12 5 rfl rfl)
theorem dX3_walks_288 : decode cX3_walks 288 = .ok (.lor, 1) := dk_129 (dk_at dksX3_walks_12 6 rfl rfl)
theorem dX3_walks_289 : decode cX3_walks 289 = .ok (.lstore 6, 2) := dk_55 6 (dk_at dksX3_walks_12 7 rfl rfl)
theorem dX3_walks_291 : decode cX3_walks 291 = .ok (.goto 17, 3) := dk_167 0 17 (dk_at dksX3_walks_12 9 rfl rfl)
theorem dX3_walks_294 : decode cX3_walks 294 = .ok (.lload 8, 2) := dk_22 8 (dk_at dksX3_walks_12 12 rfl rfl)
theorem dX3_walks_296 : decode cX3_walks 296 = .ok (.lconst 1, 1) := dk_10 (dk_at dksX3_walks_12 14 rfl rfl)
theorem dX3_walks_297 : decode cX3_walks 297 = .ok (.iload 4, 2) := dk_21 4 (dk_at dksX3_walks_12 15 rfl rfl)
theorem dX3_walks_299 : decode cX3_walks 299 = .ok (.iload 13, 2) := dk_21 13 (dk_at dksX3_walks_12 17 rfl rfl)
theorem dX3_walks_301 : decode cX3_walks 301 = .ok (.invokestatic 197, 3) := dk_184 0 197 (dk_at dksX3_walks_12 19 rfl rfl)
theorem dX3_walks_304 : decode cX3_walks 304 = .ok (.lshl, 1) := dk_121 (dk_at dksX3_walks_12 22 rfl rfl)
theorem dX3_walks_305 : decode cX3_walks 305 = .ok (.lor, 1) := dk_129 (dk_at dksX3_walks_12 23 rfl rfl)
theorem dX3_walks_306 : decode cX3_walks 306 = .ok (.lstore 8, 2) := dk_55 8 (dk_at dksX3_walks_13 0 rfl rfl)
theorem dX3_walks_308 : decode cX3_walks 308 = .ok (.aload_n 0, 1) := dk_42 (dk_at dksX3_walks_13 2 rfl rfl)
theorem dX3_walks_309 : decode cX3_walks 309 = .ok (.getfield 63, 3) := dk_180 0 63 (dk_at dksX3_walks_13 3 rfl rfl)
theorem dX3_walks_312 : decode cX3_walks 312 = .ok (.iconst 3, 1) := dk_6 (dk_at dksX3_walks_13 6 rfl rfl)
theorem dX3_walks_313 : decode cX3_walks 313 = .ok (.if_icmp .ne 26, 3) := dk_160 0 26 (dk_at dksX3_walks_13 7 rfl rfl)
theorem dX3_walks_316 : decode cX3_walks 316 = .ok (.iload 13, 2) := dk_21 13 (dk_at dksX3_walks_13 10 rfl rfl)
theorem dX3_walks_318 : decode cX3_walks 318 = .ok (.iload 4, 2) := dk_21 4 (dk_at dksX3_walks_13 12 rfl rfl)
theorem dX3_walks_320 : decode cX3_walks 320 = .ok (.if_icmp .eq 19, 3) := dk_159 0 19 (dk_at dksX3_walks_13 14 rfl rfl)
theorem dX3_walks_323 : decode cX3_walks 323 = .ok (.aload_n 0, 1) := dk_42 (dk_at dksX3_walks_13 17 rfl rfl)
theorem dX3_walks_324 : decode cX3_walks 324 = .ok (.getfield 116, 3) := dk_180 0 116 (dk_at dksX3_walks_13 18 rfl rfl)
theorem dX3_walks_327 : decode cX3_walks 327 = .ok (.iload 13, 2) := dk_21 13 (dk_at dksX3_walks_13 21 rfl rfl)
theorem dX3_walks_329 : decode cX3_walks 329 = .ok (.invokestatic 168, 3) := dk_184 0 168 (dk_at dksX3_walks_14 0 rfl rfl)
theorem dX3_walks_332 : decode cX3_walks 332 = .ok (.ifCond .eq 7, 3) := dk_153 0 7 (dk_at dksX3_walks_14 3 rfl rfl)
theorem dX3_walks_335 : decode cX3_walks 335 = .ok (.iconst 1, 1) := dk_4 (dk_at dksX3_walks_14 6 rfl rfl)
theorem dX3_walks_336 : decode cX3_walks 336 = .ok (.goto 4, 3) := dk_167 0 4 (dk_at dksX3_walks_14 7 rfl rfl)
theorem dX3_walks_339 : decode cX3_walks 339 = .ok (.iconst 0, 1) := dk_3 (dk_at dksX3_walks_14 10 rfl rfl)
theorem dX3_walks_340 : decode cX3_walks 340 = .ok (.istore 14, 2) := dk_54 14 (dk_at dksX3_walks_14 11 rfl rfl)
theorem dX3_walks_342 : decode cX3_walks 342 = .ok (.iload 13, 2) := dk_21 13 (dk_at dksX3_walks_14 13 rfl rfl)
theorem dX3_walks_344 : decode cX3_walks 344 = .ok (.istore 4, 2) := dk_54 4 (dk_at dksX3_walks_14 15 rfl rfl)
theorem dX3_walks_346 : decode cX3_walks 346 = .ok (.aload_n 0, 1) := dk_42 (dk_at dksX3_walks_14 17 rfl rfl)
theorem dX3_walks_347 : decode cX3_walks 347 = .ok (.getfield 50, 3) := dk_180 0 50 (dk_at dksX3_walks_14 18 rfl rfl)
theorem dX3_walks_350 : decode cX3_walks 350 = .ok (.iload_n 1, 1) := dk_27 (dk_at dksX3_walks_14 21 rfl rfl)
theorem dX3_walks_351 : decode cX3_walks 351 = .ok (.dup2, 1) := dk_92 (dk_at dksX3_walks_14 22 rfl rfl)
theorem dX3_walks_352 : decode cX3_walks 352 = .ok (.laload, 1) := dk_47 (dk_at dksX3_walks_14 23 rfl rfl)
theorem dX3_walks_353 : decode cX3_walks 353 = .ok (.lconst 1, 1) := dk_10 (dk_at dksX3_walks_15 0 rfl rfl)
theorem dX3_walks_354 : decode cX3_walks 354 = .ok (.iload 4, 2) := dk_21 4 (dk_at dksX3_walks_15 1 rfl rfl)
theorem dX3_walks_356 : decode cX3_walks 356 = .ok (.lshl, 1) := dk_121 (dk_at dksX3_walks_15 3 rfl rfl)
theorem dX3_walks_357 : decode cX3_walks 357 = .ok (.lor, 1) := dk_129 (dk_at dksX3_walks_15 4 rfl rfl)
theorem dX3_walks_358 : decode cX3_walks 358 = .ok (.lastore, 1) := dk_80 (dk_at dksX3_walks_15 5 rfl rfl)
theorem dX3_walks_359 : decode cX3_walks 359 = .ok (.aload_n 0, 1) := dk_42 (dk_at dksX3_walks_15 6 rfl rfl)
theorem dX3_walks_360 : decode cX3_walks 360 = .ok (.getfield 19, 3) := dk_180 0 19 (dk_at dksX3_walks_15 7 rfl rfl)
theorem dX3_walks_363 : decode cX3_walks 363 = .ok (.iload_n 1, 1) := dk_27 (dk_at dksX3_walks_15 10 rfl rfl)
theorem dX3_walks_364 : decode cX3_walks 364 = .ok (.dup2, 1) := dk_92 (dk_at dksX3_walks_15 11 rfl rfl)
theorem dX3_walks_365 : decode cX3_walks 365 = .ok (.iaload, 1) := dk_46 (dk_at dksX3_walks_15 12 rfl rfl)
theorem dX3_walks_366 : decode cX3_walks 366 = .ok (.iconst 1, 1) := dk_4 (dk_at dksX3_walks_15 13 rfl rfl)
theorem dX3_walks_367 : decode cX3_walks 367 = .ok (.iadd, 1) := dk_96 (dk_at dksX3_walks_15 14 rfl rfl)
theorem dX3_walks_368 : decode cX3_walks 368 = .ok (.iastore, 1) := dk_79 (dk_at dksX3_walks_15 15 rfl rfl)
theorem dX3_walks_369 : decode cX3_walks 369 = .ok (.aload_n 0, 1) := dk_42 (dk_at dksX3_walks_15 16 rfl rfl)
theorem dX3_walks_370 : decode cX3_walks 370 = .ok (.getfield 15, 3) := dk_180 0 15 (dk_at dksX3_walks_15 17 rfl rfl)
theorem dX3_walks_373 : decode cX3_walks 373 = .ok (.bipush 7, 2) := dk_16 7 (dk_at dksX3_walks_15 20 rfl rfl)
theorem dX3_walks_375 : decode cX3_walks 375 = .ok (.aload_n 0, 1) := dk_42 (dk_at dksX3_walks_15 22 rfl rfl)
theorem dX3_walks_376 : decode cX3_walks 376 = .ok (.getfield 19, 3) := dk_180 0 19 (dk_at dksX3_walks_16 0 rfl rfl)
theorem dX3_walks_379 : decode cX3_walks 379 = .ok (.iload_n 1, 1) := dk_27 (dk_at dksX3_walks_16 3 rfl rfl)
theorem dX3_walks_380 : decode cX3_walks 380 = .ok (.iaload, 1) := dk_46 (dk_at dksX3_walks_16 4 rfl rfl)
theorem dX3_walks_381 : decode cX3_walks 381 = .ok (.imul, 1) := dk_104 (dk_at dksX3_walks_16 5 rfl rfl)
theorem dX3_walks_382 : decode cX3_walks 382 = .ok (.iload_n 1, 1) := dk_27 (dk_at dksX3_walks_16 6 rfl rfl)
theorem dX3_walks_383 : decode cX3_walks 383 = .ok (.iadd, 1) := dk_96 (dk_at dksX3_walks_16 7 rfl rfl)
theorem dX3_walks_384 : decode cX3_walks 384 = .ok (.iload 4, 2) := dk_21 4 (dk_at dksX3_walks_16 8 rfl rfl)
theorem dX3_walks_386 : decode cX3_walks 386 = .ok (.iastore, 1) := dk_79 (dk_at dksX3_walks_16 10 rfl rfl)
theorem dX3_walks_387 : decode cX3_walks 387 = .ok (.iload 14, 2) := dk_21 14 (dk_at dksX3_walks_16 11 rfl rfl)
theorem dX3_walks_389 : decode cX3_walks 389 = .ok (.ifCond .eq 6, 3) := dk_153 0 6 (dk_at dksX3_walks_16 13 rfl rfl)
theorem dX3_walks_392 : decode cX3_walks 392 = .ok (.goto 9, 3) := dk_167 0 9 (dk_at dksX3_walks_16 16 rfl rfl)
theorem dX3_walks_395 : decode cX3_walks 395 = .ok (.iinc 10 1, 3) := dk_132 10 1 (dk_at dksX3_walks_16 19 rfl rfl)
theorem dX3_walks_398 : decode cX3_walks 398 = .ok (.goto (-334), 3) := dk_167 254 178 (dk_at dksX3_walks_17 0 rfl rfl)
theorem dX3_walks_401 : decode cX3_walks 401 = .ok (.aload_n 0, 1) := dk_42 (dk_at dksX3_walks_17 3 rfl rfl)
theorem dX3_walks_402 : decode cX3_walks 402 = .ok (.dup, 1) := dk_89 (dk_at dksX3_walks_17 4 rfl rfl)
theorem dX3_walks_403 : decode cX3_walks 403 = .ok (.getfield 116, 3) := dk_180 0 116 (dk_at dksX3_walks_17 5 rfl rfl)
theorem dX3_walks_406 : decode cX3_walks 406 = .ok (.aload_n 0, 1) := dk_42 (dk_at dksX3_walks_17 8 rfl rfl)
theorem dX3_walks_407 : decode cX3_walks 407 = .ok (.getfield 50, 3) := dk_180 0 50 (dk_at dksX3_walks_17 9 rfl rfl)
theorem dX3_walks_410 : decode cX3_walks 410 = .ok (.iload_n 1, 1) := dk_27 (dk_at dksX3_walks_17 12 rfl rfl)
theorem dX3_walks_411 : decode cX3_walks 411 = .ok (.laload, 1) := dk_47 (dk_at dksX3_walks_17 13 rfl rfl)
theorem dX3_walks_412 : decode cX3_walks 412 = .ok (.lor, 1) := dk_129 (dk_at dksX3_walks_17 14 rfl rfl)
theorem dX3_walks_413 : decode cX3_walks 413 = .ok (.putfield 116, 3) := dk_181 0 116 (dk_at dksX3_walks_17 15 rfl rfl)
theorem dX3_walks_416 : decode cX3_walks 416 = .ok (.aload_n 0, 1) := dk_42 (dk_at dksX3_walks_17 18 rfl rfl)
theorem dX3_walks_417 : decode cX3_walks 417 = .ok (.dup, 1) := dk_89 (dk_at dksX3_walks_17 19 rfl rfl)
theorem dX3_walks_418 : decode cX3_walks 418 = .ok (.getfield 119, 3) := dk_180 0 119 (dk_at dksX3_walks_17 20 rfl rfl)
theorem dX3_walks_421 : decode cX3_walks 421 = .ok (.lload 6, 2) := dk_22 6 (dk_at dksX3_walks_18 0 rfl rfl)
theorem dX3_walks_423 : decode cX3_walks 423 = .ok (.lor, 1) := dk_129 (dk_at dksX3_walks_18 2 rfl rfl)
theorem dX3_walks_424 : decode cX3_walks 424 = .ok (.putfield 119, 3) := dk_181 0 119 (dk_at dksX3_walks_18 3 rfl rfl)
theorem dX3_walks_427 : decode cX3_walks 427 = .ok (.aload_n 0, 1) := dk_42 (dk_at dksX3_walks_18 6 rfl rfl)
theorem dX3_walks_428 : decode cX3_walks 428 = .ok (.dup, 1) := dk_89 (dk_at dksX3_walks_18 7 rfl rfl)
theorem dX3_walks_429 : decode cX3_walks 429 = .ok (.getfield 122, 3) := dk_180 0 122 (dk_at dksX3_walks_18 8 rfl rfl)
theorem dX3_walks_432 : decode cX3_walks 432 = .ok (.lload 8, 2) := dk_22 8 (dk_at dksX3_walks_18 11 rfl rfl)
theorem dX3_walks_434 : decode cX3_walks 434 = .ok (.lor, 1) := dk_129 (dk_at dksX3_walks_18 13 rfl rfl)
theorem dX3_walks_435 : decode cX3_walks 435 = .ok (.putfield 122, 3) := dk_181 0 122 (dk_at dksX3_walks_18 14 rfl rfl)
theorem dX3_walks_438 : decode cX3_walks 438 = .ok (.aload_n 0, 1) := dk_42 (dk_at dksX3_walks_18 17 rfl rfl)
theorem dX3_walks_439 : decode cX3_walks 439 = .ok (.iload_n 1, 1) := dk_27 (dk_at dksX3_walks_18 18 rfl rfl)
theorem dX3_walks_440 : decode cX3_walks 440 = .ok (.iload_n 2, 1) := dk_28 (dk_at dksX3_walks_18 19 rfl rfl)
theorem dX3_walks_441 : decode cX3_walks 441 = .ok (.invokevirtual 202, 3) := dk_182 0 202 (dk_at dksX3_walks_18 20 rfl rfl)
theorem dX3_walks_444 : decode cX3_walks 444 = .ok (.return_, 1) := dk_177 (dk_at dksX3_walks_18 23 rfl rfl)
abbrev cX3_isAny : ByteArray := prog_8_method_6_code
def yX3_isAny : MethodName := ⟨RX3, "isAny", "(IJ)Z"⟩
def dkwX3_isAny_1 : List UInt8 := [153, 0, 5, 4, 172, 132, 4, 1, 167, 255, 227, 3, 172]
abbrev dktX3_isAny_1 : List UInt8 := dkwX3_isAny_1 ++ []
def dkwX3_isAny_0 : List UInt8 := [3, 54, 4, 21, 4, 7, 162, 0, 29, 42, 42, 180, 0, 3, 27, 21, 4, 182, 0, 176, 32, 182, 0, 180]
abbrev dktX3_isAny_0 : List UInt8 := dkwX3_isAny_0 ++ dktX3_isAny_1
theorem dksX3_isAny_0 : cX3_isAny.data.toList.drop 0 = dktX3_isAny_0 := by decide +kernel
theorem dksX3_isAny_1 : cX3_isAny.data.toList.drop 24 = dktX3_isAny_1 := dk_seg dksX3_isAny_0 24 rfl rfl
theorem dX3_isAny_0 : decode cX3_isAny 0 = .ok (.iconst 0, 1) := dk_3 (dk_at dksX3_isAny_0 0 rfl rfl)
theorem dX3_isAny_1 : decode cX3_isAny 1 = .ok (.istore 4, 2) := dk_54 4 (dk_at dksX3_isAny_0 1 rfl rfl)
theorem dX3_isAny_3 : decode cX3_isAny 3 = .ok (.iload 4, 2) := dk_21 4 (dk_at dksX3_isAny_0 3 rfl rfl)
theorem dX3_isAny_5 : decode cX3_isAny 5 = .ok (.iconst 4, 1) := dk_7 (dk_at dksX3_isAny_0 5 rfl rfl)
theorem dX3_isAny_6 : decode cX3_isAny 6 = .ok (.if_icmp .ge 29, 3) := dk_162 0 29 (dk_at dksX3_isAny_0 6 rfl rfl)
theorem dX3_isAny_9 : decode cX3_isAny 9 = .ok (.aload_n 0, 1) := dk_42 (dk_at dksX3_isAny_0 9 rfl rfl)
theorem dX3_isAny_10 : decode cX3_isAny 10 = .ok (.aload_n 0, 1) := dk_42 (dk_at dksX3_isAny_0 10 rfl rfl)
theorem dX3_isAny_11 : decode cX3_isAny 11 = .ok (.getfield 3, 3) := dk_180 0 3 (dk_at dksX3_isAny_0 11 rfl rfl)
theorem dX3_isAny_14 : decode cX3_isAny 14 = .ok (.iload_n 1, 1) := dk_27 (dk_at dksX3_isAny_0 14 rfl rfl)
theorem dX3_isAny_15 : decode cX3_isAny 15 = .ok (.iload 4, 2) := dk_21 4 (dk_at dksX3_isAny_0 15 rfl rfl)
theorem dX3_isAny_17 : decode cX3_isAny 17 = .ok (.invokevirtual 176, 3) := dk_182 0 176 (dk_at dksX3_isAny_0 17 rfl rfl)
theorem dX3_isAny_20 : decode cX3_isAny 20 = .ok (.lload_n 2, 1) := dk_32 (dk_at dksX3_isAny_0 20 rfl rfl)
theorem dX3_isAny_21 : decode cX3_isAny 21 = .ok (.invokevirtual 180, 3) := dk_182 0 180 (dk_at dksX3_isAny_0 21 rfl rfl)
theorem dX3_isAny_24 : decode cX3_isAny 24 = .ok (.ifCond .eq 5, 3) := dk_153 0 5 (dk_at dksX3_isAny_1 0 rfl rfl)
theorem dX3_isAny_27 : decode cX3_isAny 27 = .ok (.iconst 1, 1) := dk_4 (dk_at dksX3_isAny_1 3 rfl rfl)
theorem dX3_isAny_28 : decode cX3_isAny 28 = .ok (.ireturn, 1) := dk_172 (dk_at dksX3_isAny_1 4 rfl rfl)
theorem dX3_isAny_29 : decode cX3_isAny 29 = .ok (.iinc 4 1, 3) := dk_132 4 1 (dk_at dksX3_isAny_1 5 rfl rfl)
theorem dX3_isAny_32 : decode cX3_isAny 32 = .ok (.goto (-29), 3) := dk_167 255 227 (dk_at dksX3_isAny_1 8 rfl rfl)
theorem dX3_isAny_35 : decode cX3_isAny 35 = .ok (.iconst 0, 1) := dk_3 (dk_at dksX3_isAny_1 11 rfl rfl)
theorem dX3_isAny_36 : decode cX3_isAny 36 = .ok (.ireturn, 1) := dk_172 (dk_at dksX3_isAny_1 12 rfl rfl)
abbrev cX3_isFree : ByteArray := prog_8_method_5_code
def yX3_isFree : MethodName := ⟨RX3, "isFree", "(IJ)Z"⟩
def dkwX3_isFree_0 : List UInt8 := [42, 27, 182, 0, 172, 153, 0, 15, 32, 27, 184, 0, 168, 154, 0, 7, 4, 167, 0, 4, 3, 172]
abbrev dktX3_isFree_0 : List UInt8 := dkwX3_isFree_0 ++ []
theorem dksX3_isFree_0 : cX3_isFree.data.toList.drop 0 = dktX3_isFree_0 := by decide +kernel
theorem dX3_isFree_0 : decode cX3_isFree 0 = .ok (.aload_n 0, 1) := dk_42 (dk_at dksX3_isFree_0 0 rfl rfl)
theorem dX3_isFree_1 : decode cX3_isFree 1 = .ok (.iload_n 1, 1) := dk_27 (dk_at dksX3_isFree_0 1 rfl rfl)
theorem dX3_isFree_2 : decode cX3_isFree 2 = .ok (.invokevirtual 172, 3) := dk_182 0 172 (dk_at dksX3_isFree_0 2 rfl rfl)
theorem dX3_isFree_5 : decode cX3_isFree 5 = .ok (.ifCond .eq 15, 3) := dk_153 0 15 (dk_at dksX3_isFree_0 5 rfl rfl)
theorem dX3_isFree_8 : decode cX3_isFree 8 = .ok (.lload_n 2, 1) := dk_32 (dk_at dksX3_isFree_0 8 rfl rfl)
theorem dX3_isFree_9 : decode cX3_isFree 9 = .ok (.iload_n 1, 1) := dk_27 (dk_at dksX3_isFree_0 9 rfl rfl)
theorem dX3_isFree_10 : decode cX3_isFree 10 = .ok (.invokestatic 168, 3) := dk_184 0 168 (dk_at dksX3_isFree_0 10 rfl rfl)
theorem dX3_isFree_13 : decode cX3_isFree 13 = .ok (.ifCond .ne 7, 3) := dk_154 0 7 (dk_at dksX3_isFree_0 13 rfl rfl)
theorem dX3_isFree_16 : decode cX3_isFree 16 = .ok (.iconst 1, 1) := dk_4 (dk_at dksX3_isFree_0 16 rfl rfl)
theorem dX3_isFree_17 : decode cX3_isFree 17 = .ok (.goto 4, 3) := dk_167 0 4 (dk_at dksX3_isFree_0 17 rfl rfl)
theorem dX3_isFree_20 : decode cX3_isFree 20 = .ok (.iconst 0, 1) := dk_3 (dk_at dksX3_isFree_0 20 rfl rfl)
theorem dX3_isFree_21 : decode cX3_isFree 21 = .ok (.ireturn, 1) := dk_172 (dk_at dksX3_isFree_0 21 rfl rfl)
abbrev cX3_isLand : ByteArray := prog_8_method_4_code
def yX3_isLand : MethodName := ⟨RX3, "isLand", "(I)Z"⟩
def dkwX3_isLand_0 : List UInt8 := [27, 2, 159, 0, 18, 42, 180, 0, 71, 27, 184, 0, 168, 154, 0, 7, 4, 167, 0, 4, 3, 172]
abbrev dktX3_isLand_0 : List UInt8 := dkwX3_isLand_0 ++ []
theorem dksX3_isLand_0 : cX3_isLand.data.toList.drop 0 = dktX3_isLand_0 := by decide +kernel
theorem dX3_isLand_0 : decode cX3_isLand 0 = .ok (.iload_n 1, 1) := dk_27 (dk_at dksX3_isLand_0 0 rfl rfl)
theorem dX3_isLand_1 : decode cX3_isLand 1 = .ok (.iconst (-1), 1) := dk_2 (dk_at dksX3_isLand_0 1 rfl rfl)
theorem dX3_isLand_2 : decode cX3_isLand 2 = .ok (.if_icmp .eq 18, 3) := dk_159 0 18 (dk_at dksX3_isLand_0 2 rfl rfl)
theorem dX3_isLand_5 : decode cX3_isLand 5 = .ok (.aload_n 0, 1) := dk_42 (dk_at dksX3_isLand_0 5 rfl rfl)
theorem dX3_isLand_6 : decode cX3_isLand 6 = .ok (.getfield 71, 3) := dk_180 0 71 (dk_at dksX3_isLand_0 6 rfl rfl)
theorem dX3_isLand_9 : decode cX3_isLand 9 = .ok (.iload_n 1, 1) := dk_27 (dk_at dksX3_isLand_0 9 rfl rfl)
theorem dX3_isLand_10 : decode cX3_isLand 10 = .ok (.invokestatic 168, 3) := dk_184 0 168 (dk_at dksX3_isLand_0 10 rfl rfl)
theorem dX3_isLand_13 : decode cX3_isLand 13 = .ok (.ifCond .ne 7, 3) := dk_154 0 7 (dk_at dksX3_isLand_0 13 rfl rfl)
theorem dX3_isLand_16 : decode cX3_isLand 16 = .ok (.iconst 1, 1) := dk_4 (dk_at dksX3_isLand_0 16 rfl rfl)
theorem dX3_isLand_17 : decode cX3_isLand 17 = .ok (.goto 4, 3) := dk_167 0 4 (dk_at dksX3_isLand_0 17 rfl rfl)
theorem dX3_isLand_20 : decode cX3_isLand 20 = .ok (.iconst 0, 1) := dk_3 (dk_at dksX3_isLand_0 20 rfl rfl)
theorem dX3_isLand_21 : decode cX3_isLand 21 = .ok (.ireturn, 1) := dk_172 (dk_at dksX3_isLand_0 21 rfl rfl)
abbrev cX3_shifts : ByteArray := prog_8_method_8_code
def yX3_shifts : MethodName := ⟨RX3, "shifts", "(II)V"⟩
def dkwX3_shifts_4 : List UInt8 := [180, 0, 25, 27, 92, 46, 4, 96, 79, 132, 3, 1, 167, 255, 162, 177]
abbrev dktX3_shifts_4 : List UInt8 := dkwX3_shifts_4 ++ []
def dkwX3_shifts_3 : List UInt8 := [16, 6, 28, 104, 29, 96, 42, 28, 182, 0, 205, 79, 42, 180, 0, 31, 29, 92, 46, 4, 96, 79, 42]
abbrev dktX3_shifts_3 : List UInt8 := dkwX3_shifts_3 ++ dktX3_shifts_4
def dkwX3_shifts_2 : List UInt8 := [159, 0, 56, 42, 180, 0, 50, 27, 47, 21, 4, 184, 0, 168, 154, 0, 6, 167, 0, 39, 42, 180, 0, 28]
abbrev dktX3_shifts_2 : List UInt8 := dkwX3_shifts_2 ++ dktX3_shifts_3
def dkwX3_shifts_1 : List UInt8 := [185, 0, 136, 1, 0, 162, 0, 81, 42, 180, 0, 28, 16, 6, 28, 104, 29, 96, 46, 54, 4, 21, 4, 2]
abbrev dktX3_shifts_1 : List UInt8 := dkwX3_shifts_1 ++ dktX3_shifts_2
def dkwX3_shifts_0 : List UInt8 := [42, 180, 0, 25, 27, 3, 79, 3, 62, 29, 42, 180, 0, 3, 180, 0, 53, 180, 0, 134]
abbrev dktX3_shifts_0 : List UInt8 := dkwX3_shifts_0 ++ dktX3_shifts_1
theorem dksX3_shifts_0 : cX3_shifts.data.toList.drop 0 = dktX3_shifts_0 := by decide +kernel
theorem dksX3_shifts_1 : cX3_shifts.data.toList.drop 20 = dktX3_shifts_1 := dk_seg dksX3_shifts_0 20 rfl rfl
theorem dksX3_shifts_2 : cX3_shifts.data.toList.drop 44 = dktX3_shifts_2 := dk_seg dksX3_shifts_1 24 rfl rfl
theorem dksX3_shifts_3 : cX3_shifts.data.toList.drop 68 = dktX3_shifts_3 := dk_seg dksX3_shifts_2 24 rfl rfl
theorem dksX3_shifts_4 : cX3_shifts.data.toList.drop 91 = dktX3_shifts_4 := dk_seg dksX3_shifts_3 23 rfl rfl
theorem dX3_shifts_0 : decode cX3_shifts 0 = .ok (.aload_n 0, 1) := dk_42 (dk_at dksX3_shifts_0 0 rfl rfl)
theorem dX3_shifts_1 : decode cX3_shifts 1 = .ok (.getfield 25, 3) := dk_180 0 25 (dk_at dksX3_shifts_0 1 rfl rfl)
theorem dX3_shifts_4 : decode cX3_shifts 4 = .ok (.iload_n 1, 1) := dk_27 (dk_at dksX3_shifts_0 4 rfl rfl)
theorem dX3_shifts_5 : decode cX3_shifts 5 = .ok (.iconst 0, 1) := dk_3 (dk_at dksX3_shifts_0 5 rfl rfl)
theorem dX3_shifts_6 : decode cX3_shifts 6 = .ok (.iastore, 1) := dk_79 (dk_at dksX3_shifts_0 6 rfl rfl)
theorem dX3_shifts_7 : decode cX3_shifts 7 = .ok (.iconst 0, 1) := dk_3 (dk_at dksX3_shifts_0 7 rfl rfl)
theorem dX3_shifts_8 : decode cX3_shifts 8 = .ok (.istore_n 3, 1) := dk_62 (dk_at dksX3_shifts_0 8 rfl rfl)
theorem dX3_shifts_9 : decode cX3_shifts 9 = .ok (.iload_n 3, 1) := dk_29 (dk_at dksX3_shifts_0 9 rfl rfl)
theorem dX3_shifts_10 : decode cX3_shifts 10 = .ok (.aload_n 0, 1) := dk_42 (dk_at dksX3_shifts_0 10 rfl rfl)
theorem dX3_shifts_11 : decode cX3_shifts 11 = .ok (.getfield 3, 3) := dk_180 0 3 (dk_at dksX3_shifts_0 11 rfl rfl)
theorem dX3_shifts_14 : decode cX3_shifts 14 = .ok (.getfield 53, 3) := dk_180 0 53 (dk_at dksX3_shifts_0 14 rfl rfl)
theorem dX3_shifts_17 : decode cX3_shifts 17 = .ok (.getfield 134, 3) := dk_180 0 134 (dk_at dksX3_shifts_0 17 rfl rfl)
theorem dX3_shifts_20 : decode cX3_shifts 20 = .ok (.invokeinterface 136 1, 5) := by decide +kernel
theorem dX3_shifts_25 : decode cX3_shifts 25 = .ok (.if_icmp .ge 81, 3) := dk_162 0 81 (dk_at dksX3_shifts_1 5 rfl rfl)
theorem dX3_shifts_28 : decode cX3_shifts 28 = .ok (.aload_n 0, 1) := dk_42 (dk_at dksX3_shifts_1 8 rfl rfl)
theorem dX3_shifts_29 : decode cX3_shifts 29 = .ok (.getfield 28, 3) := dk_180 0 28 (dk_at dksX3_shifts_1 9 rfl rfl)
theorem dX3_shifts_32 : decode cX3_shifts 32 = .ok (.bipush 6, 2) := dk_16 6 (dk_at dksX3_shifts_1 12 rfl rfl)
theorem dX3_shifts_34 : decode cX3_shifts 34 = .ok (.iload_n 2, 1) := dk_28 (dk_at dksX3_shifts_1 14 rfl rfl)
theorem dX3_shifts_35 : decode cX3_shifts 35 = .ok (.imul, 1) := dk_104 (dk_at dksX3_shifts_1 15 rfl rfl)
theorem dX3_shifts_36 : decode cX3_shifts 36 = .ok (.iload_n 3, 1) := dk_29 (dk_at dksX3_shifts_1 16 rfl rfl)
theorem dX3_shifts_37 : decode cX3_shifts 37 = .ok (.iadd, 1) := dk_96 (dk_at dksX3_shifts_1 17 rfl rfl)
theorem dX3_shifts_38 : decode cX3_shifts 38 = .ok (.iaload, 1) := dk_46 (dk_at dksX3_shifts_1 18 rfl rfl)
theorem dX3_shifts_39 : decode cX3_shifts 39 = .ok (.istore 4, 2) := dk_54 4 (dk_at dksX3_shifts_1 19 rfl rfl)
theorem dX3_shifts_41 : decode cX3_shifts 41 = .ok (.iload 4, 2) := dk_21 4 (dk_at dksX3_shifts_1 21 rfl rfl)
theorem dX3_shifts_43 : decode cX3_shifts 43 = .ok (.iconst (-1), 1) := dk_2 (dk_at dksX3_shifts_1 23 rfl rfl)
theorem dX3_shifts_44 : decode cX3_shifts 44 = .ok (.if_icmp .eq 56, 3) := dk_159 0 56 (dk_at dksX3_shifts_2 0 rfl rfl)
theorem dX3_shifts_47 : decode cX3_shifts 47 = .ok (.aload_n 0, 1) := dk_42 (dk_at dksX3_shifts_2 3 rfl rfl)
theorem dX3_shifts_48 : decode cX3_shifts 48 = .ok (.getfield 50, 3) := dk_180 0 50 (dk_at dksX3_shifts_2 4 rfl rfl)
theorem dX3_shifts_51 : decode cX3_shifts 51 = .ok (.iload_n 1, 1) := dk_27 (dk_at dksX3_shifts_2 7 rfl rfl)
theorem dX3_shifts_52 : decode cX3_shifts 52 = .ok (.laload, 1) := dk_47 (dk_at dksX3_shifts_2 8 rfl rfl)
theorem dX3_shifts_53 : decode cX3_shifts 53 = .ok (.iload 4, 2) := dk_21 4 (dk_at dksX3_shifts_2 9 rfl rfl)
theorem dX3_shifts_55 : decode cX3_shifts 55 = .ok (.invokestatic 168, 3) := dk_184 0 168 (dk_at dksX3_shifts_2 11 rfl rfl)
theorem dX3_shifts_58 : decode cX3_shifts 58 = .ok (.ifCond .ne 6, 3) := dk_154 0 6 (dk_at dksX3_shifts_2 14 rfl rfl)
theorem dX3_shifts_61 : decode cX3_shifts 61 = .ok (.goto 39, 3) := dk_167 0 39 (dk_at dksX3_shifts_2 17 rfl rfl)
theorem dX3_shifts_64 : decode cX3_shifts 64 = .ok (.aload_n 0, 1) := dk_42 (dk_at dksX3_shifts_2 20 rfl rfl)
theorem dX3_shifts_65 : decode cX3_shifts 65 = .ok (.getfield 28, 3) := dk_180 0 28 (dk_at dksX3_shifts_2 21 rfl rfl)
theorem dX3_shifts_68 : decode cX3_shifts 68 = .ok (.bipush 6, 2) := dk_16 6 (dk_at dksX3_shifts_3 0 rfl rfl)
theorem dX3_shifts_70 : decode cX3_shifts 70 = .ok (.iload_n 2, 1) := dk_28 (dk_at dksX3_shifts_3 2 rfl rfl)
theorem dX3_shifts_71 : decode cX3_shifts 71 = .ok (.imul, 1) := dk_104 (dk_at dksX3_shifts_3 3 rfl rfl)
theorem dX3_shifts_72 : decode cX3_shifts 72 = .ok (.iload_n 3, 1) := dk_29 (dk_at dksX3_shifts_3 4 rfl rfl)
theorem dX3_shifts_73 : decode cX3_shifts 73 = .ok (.iadd, 1) := dk_96 (dk_at dksX3_shifts_3 5 rfl rfl)
theorem dX3_shifts_74 : decode cX3_shifts 74 = .ok (.aload_n 0, 1) := dk_42 (dk_at dksX3_shifts_3 6 rfl rfl)
theorem dX3_shifts_75 : decode cX3_shifts 75 = .ok (.iload_n 2, 1) := dk_28 (dk_at dksX3_shifts_3 7 rfl rfl)
theorem dX3_shifts_76 : decode cX3_shifts 76 = .ok (.invokevirtual 205, 3) := dk_182 0 205 (dk_at dksX3_shifts_3 8 rfl rfl)
theorem dX3_shifts_79 : decode cX3_shifts 79 = .ok (.iastore, 1) := dk_79 (dk_at dksX3_shifts_3 11 rfl rfl)
theorem dX3_shifts_80 : decode cX3_shifts 80 = .ok (.aload_n 0, 1) := dk_42 (dk_at dksX3_shifts_3 12 rfl rfl)
theorem dX3_shifts_81 : decode cX3_shifts 81 = .ok (.getfield 31, 3) := dk_180 0 31 (dk_at dksX3_shifts_3 13 rfl rfl)
theorem dX3_shifts_84 : decode cX3_shifts 84 = .ok (.iload_n 3, 1) := dk_29 (dk_at dksX3_shifts_3 16 rfl rfl)
theorem dX3_shifts_85 : decode cX3_shifts 85 = .ok (.dup2, 1) := dk_92 (dk_at dksX3_shifts_3 17 rfl rfl)
theorem dX3_shifts_86 : decode cX3_shifts 86 = .ok (.iaload, 1) := dk_46 (dk_at dksX3_shifts_3 18 rfl rfl)
theorem dX3_shifts_87 : decode cX3_shifts 87 = .ok (.iconst 1, 1) := dk_4 (dk_at dksX3_shifts_3 19 rfl rfl)
theorem dX3_shifts_88 : decode cX3_shifts 88 = .ok (.iadd, 1) := dk_96 (dk_at dksX3_shifts_3 20 rfl rfl)
theorem dX3_shifts_89 : decode cX3_shifts 89 = .ok (.iastore, 1) := dk_79 (dk_at dksX3_shifts_3 21 rfl rfl)
theorem dX3_shifts_90 : decode cX3_shifts 90 = .ok (.aload_n 0, 1) := dk_42 (dk_at dksX3_shifts_3 22 rfl rfl)
theorem dX3_shifts_91 : decode cX3_shifts 91 = .ok (.getfield 25, 3) := dk_180 0 25 (dk_at dksX3_shifts_4 0 rfl rfl)
theorem dX3_shifts_94 : decode cX3_shifts 94 = .ok (.iload_n 1, 1) := dk_27 (dk_at dksX3_shifts_4 3 rfl rfl)
theorem dX3_shifts_95 : decode cX3_shifts 95 = .ok (.dup2, 1) := dk_92 (dk_at dksX3_shifts_4 4 rfl rfl)
theorem dX3_shifts_96 : decode cX3_shifts 96 = .ok (.iaload, 1) := dk_46 (dk_at dksX3_shifts_4 5 rfl rfl)
theorem dX3_shifts_97 : decode cX3_shifts 97 = .ok (.iconst 1, 1) := dk_4 (dk_at dksX3_shifts_4 6 rfl rfl)
theorem dX3_shifts_98 : decode cX3_shifts 98 = .ok (.iadd, 1) := dk_96 (dk_at dksX3_shifts_4 7 rfl rfl)
theorem dX3_shifts_99 : decode cX3_shifts 99 = .ok (.iastore, 1) := dk_79 (dk_at dksX3_shifts_4 8 rfl rfl)
theorem dX3_shifts_100 : decode cX3_shifts 100 = .ok (.iinc 3 1, 3) := dk_132 3 1 (dk_at dksX3_shifts_4 9 rfl rfl)
theorem dX3_shifts_103 : decode cX3_shifts 103 = .ok (.goto (-94), 3) := dk_167 255 162 (dk_at dksX3_shifts_4 12 rfl rfl)
theorem dX3_shifts_106 : decode cX3_shifts 106 = .ok (.return_, 1) := dk_177 (dk_at dksX3_shifts_4 15 rfl rfl)
abbrev cX3_freeSpot : ByteArray := prog_8_method_9_code
def yX3_freeSpot : MethodName := ⟨RX3, "freeSpot", "(I)I"⟩
def dkwX3_freeSpot_6 : List UInt8 := [167, 255, 190, 2, 172]
abbrev dktX3_freeSpot_6 : List UInt8 := dkwX3_freeSpot_6 ++ []
def dkwX3_freeSpot_5 : List UInt8 := [184, 0, 168, 154, 0, 12, 16, 8, 21, 4, 104, 21, 5, 96, 172, 132, 5, 1, 167, 255, 214, 132, 4, 1]
abbrev dktX3_freeSpot_5 : List UInt8 := dkwX3_freeSpot_5 ++ dktX3_freeSpot_6
def dkwX3_freeSpot_4 : List UInt8 := [21, 5, 42, 180, 0, 3, 180, 0, 53, 180, 0, 212, 162, 0, 33, 32, 16, 8, 21, 4, 104, 21, 5, 96]
abbrev dktX3_freeSpot_4 : List UInt8 := dkwX3_freeSpot_4 ++ dktX3_freeSpot_5
def dkwX3_freeSpot_3 : List UInt8 := [167, 255, 200, 3, 54, 4, 21, 4, 42, 180, 0, 3, 180, 0, 53, 180, 0, 209, 162, 0, 57, 3, 54, 5]
abbrev dktX3_freeSpot_3 : List UInt8 := dkwX3_freeSpot_3 ++ dktX3_freeSpot_4
def dkwX3_freeSpot_2 : List UInt8 := [159, 0, 20, 32, 10, 42, 180, 0, 28, 16, 6, 27, 104, 21, 4, 96, 46, 121, 129, 65, 132, 4, 1]
abbrev dktX3_freeSpot_2 : List UInt8 := dkwX3_freeSpot_2 ++ dktX3_freeSpot_3
def dkwX3_freeSpot_1 : List UInt8 := [180, 0, 134, 185, 0, 136, 1, 0, 162, 0, 42, 42, 180, 0, 28, 16, 6, 27, 104, 21, 4, 96, 46, 2]
abbrev dktX3_freeSpot_1 : List UInt8 := dkwX3_freeSpot_1 ++ dktX3_freeSpot_2
def dkwX3_freeSpot_0 : List UInt8 := [42, 180, 0, 71, 42, 180, 0, 116, 129, 65, 3, 54, 4, 21, 4, 42, 180, 0, 3, 180, 0, 53]
abbrev dktX3_freeSpot_0 : List UInt8 := dkwX3_freeSpot_0 ++ dktX3_freeSpot_1
theorem dksX3_freeSpot_0 : cX3_freeSpot.data.toList.drop 0 = dktX3_freeSpot_0 := by decide +kernel
theorem dksX3_freeSpot_1 : cX3_freeSpot.data.toList.drop 22 = dktX3_freeSpot_1 := dk_seg dksX3_freeSpot_0 22 rfl rfl
theorem dksX3_freeSpot_2 : cX3_freeSpot.data.toList.drop 46 = dktX3_freeSpot_2 := dk_seg dksX3_freeSpot_1 24 rfl rfl
theorem dksX3_freeSpot_3 : cX3_freeSpot.data.toList.drop 69 = dktX3_freeSpot_3 := dk_seg dksX3_freeSpot_2 23 rfl rfl
theorem dksX3_freeSpot_4 : cX3_freeSpot.data.toList.drop 93 = dktX3_freeSpot_4 := dk_seg dksX3_freeSpot_3 24 rfl rfl
theorem dksX3_freeSpot_5 : cX3_freeSpot.data.toList.drop 117 = dktX3_freeSpot_5 := dk_seg dksX3_freeSpot_4 24 rfl rfl
theorem dksX3_freeSpot_6 : cX3_freeSpot.data.toList.drop 141 = dktX3_freeSpot_6 := dk_seg dksX3_freeSpot_5 24 rfl rfl
theorem dX3_freeSpot_0 : decode cX3_freeSpot 0 = .ok (.aload_n 0, 1) := dk_42 (dk_at dksX3_freeSpot_0 0 rfl rfl)
theorem dX3_freeSpot_1 : decode cX3_freeSpot 1 = .ok (.getfield 71, 3) := dk_180 0 71 (dk_at dksX3_freeSpot_0 1 rfl rfl)
theorem dX3_freeSpot_4 : decode cX3_freeSpot 4 = .ok (.aload_n 0, 1) := dk_42 (dk_at dksX3_freeSpot_0 4 rfl rfl)
theorem dX3_freeSpot_5 : decode cX3_freeSpot 5 = .ok (.getfield 116, 3) := dk_180 0 116 (dk_at dksX3_freeSpot_0 5 rfl rfl)
theorem dX3_freeSpot_8 : decode cX3_freeSpot 8 = .ok (.lor, 1) := dk_129 (dk_at dksX3_freeSpot_0 8 rfl rfl)
theorem dX3_freeSpot_9 : decode cX3_freeSpot 9 = .ok (.lstore_n 2, 1) := dk_65 (dk_at dksX3_freeSpot_0 9 rfl rfl)
theorem dX3_freeSpot_10 : decode cX3_freeSpot 10 = .ok (.iconst 0, 1) := dk_3 (dk_at dksX3_freeSpot_0 10 rfl rfl)
theorem dX3_freeSpot_11 : decode cX3_freeSpot 11 = .ok (.istore 4, 2) := dk_54 4 (dk_at dksX3_freeSpot_0 11 rfl rfl)
theorem dX3_freeSpot_13 : decode cX3_freeSpot 13 = .ok (.iload 4, 2) := dk_21 4 (dk_at dksX3_freeSpot_0 13 rfl rfl)
theorem dX3_freeSpot_15 : decode cX3_freeSpot 15 = .ok (.aload_n 0, 1) := dk_42 (dk_at dksX3_freeSpot_0 15 rfl rfl)
theorem dX3_freeSpot_16 : decode cX3_freeSpot 16 = .ok (.getfield 3, 3) := dk_180 0 3 (dk_at dksX3_freeSpot_0 16 rfl rfl)
theorem dX3_freeSpot_19 : decode cX3_freeSpot 19 = .ok (.getfield 53, 3) := dk_180 0 53 (dk_at dksX3_freeSpot_0 19 rfl rfl)
theorem dX3_freeSpot_22 : decode cX3_freeSpot 22 = .ok (.getfield 134, 3) := dk_180 0 134 (dk_at dksX3_freeSpot_1 0 rfl rfl)
theorem dX3_freeSpot_25 : decode cX3_freeSpot 25 = .ok (.invokeinterface 136 1, 5) := by decide +kernel
theorem dX3_freeSpot_30 : decode cX3_freeSpot 30 = .ok (.if_icmp .ge 42, 3) := dk_162 0 42 (dk_at dksX3_freeSpot_1 8 rfl rfl)
theorem dX3_freeSpot_33 : decode cX3_freeSpot 33 = .ok (.aload_n 0, 1) := dk_42 (dk_at dksX3_freeSpot_1 11 rfl rfl)
theorem dX3_freeSpot_34 : decode cX3_freeSpot 34 = .ok (.getfield 28, 3) := dk_180 0 28 (dk_at dksX3_freeSpot_1 12 rfl rfl)
theorem dX3_freeSpot_37 : decode cX3_freeSpot 37 = .ok (.bipush 6, 2) := dk_16 6 (dk_at dksX3_freeSpot_1 15 rfl rfl)
theorem dX3_freeSpot_39 : decode cX3_freeSpot 39 = .ok (.iload_n 1, 1) := dk_27 (dk_at dksX3_freeSpot_1 17 rfl rfl)
theorem dX3_freeSpot_40 : decode cX3_freeSpot 40 = .ok (.imul, 1) := dk_104 (dk_at dksX3_freeSpot_1 18 rfl rfl)
theorem dX3_freeSpot_41 : decode cX3_freeSpot 41 = .ok (.iload 4, 2) := dk_21 4 (dk_at dksX3_freeSpot_1 19 rfl rfl)
theorem dX3_freeSpot_43 : decode cX3_freeSpot 43 = .ok (.iadd, 1) := dk_96 (dk_at dksX3_freeSpot_1 21 rfl rfl)
theorem dX3_freeSpot_44 : decode cX3_freeSpot 44 = .ok (.iaload, 1) := dk_46 (dk_at dksX3_freeSpot_1 22 rfl rfl)
theorem dX3_freeSpot_45 : decode cX3_freeSpot 45 = .ok (.iconst (-1), 1) := dk_2 (dk_at dksX3_freeSpot_1 23 rfl rfl)
theorem dX3_freeSpot_46 : decode cX3_freeSpot 46 = .ok (.if_icmp .eq 20, 3) := dk_159 0 20 (dk_at dksX3_freeSpot_2 0 rfl rfl)
theorem dX3_freeSpot_49 : decode cX3_freeSpot 49 = .ok (.lload_n 2, 1) := dk_32 (dk_at dksX3_freeSpot_2 3 rfl rfl)
theorem dX3_freeSpot_50 : decode cX3_freeSpot 50 = .ok (.lconst 1, 1) := dk_10 (dk_at dksX3_freeSpot_2 4 rfl rfl)
theorem dX3_freeSpot_51 : decode cX3_freeSpot 51 = .ok (.aload_n 0, 1) := dk_42 (dk_at dksX3_freeSpot_2 5 rfl rfl)
theorem dX3_freeSpot_52 : decode cX3_freeSpot 52 = .ok (.getfield 28, 3) := dk_180 0 28 (dk_at dksX3_freeSpot_2 6 rfl rfl)
theorem dX3_freeSpot_55 : decode cX3_freeSpot 55 = .ok (.bipush 6, 2) := dk_16 6 (dk_at dksX3_freeSpot_2 9 rfl rfl)
theorem dX3_freeSpot_57 : decode cX3_freeSpot 57 = .ok (.iload_n 1, 1) := dk_27 (dk_at dksX3_freeSpot_2 11 rfl rfl)
theorem dX3_freeSpot_58 : decode cX3_freeSpot 58 = .ok (.imul, 1) := dk_104 (dk_at dksX3_freeSpot_2 12 rfl rfl)
theorem dX3_freeSpot_59 : decode cX3_freeSpot 59 = .ok (.iload 4, 2) := dk_21 4 (dk_at dksX3_freeSpot_2 13 rfl rfl)
theorem dX3_freeSpot_61 : decode cX3_freeSpot 61 = .ok (.iadd, 1) := dk_96 (dk_at dksX3_freeSpot_2 15 rfl rfl)
theorem dX3_freeSpot_62 : decode cX3_freeSpot 62 = .ok (.iaload, 1) := dk_46 (dk_at dksX3_freeSpot_2 16 rfl rfl)
theorem dX3_freeSpot_63 : decode cX3_freeSpot 63 = .ok (.lshl, 1) := dk_121 (dk_at dksX3_freeSpot_2 17 rfl rfl)
theorem dX3_freeSpot_64 : decode cX3_freeSpot 64 = .ok (.lor, 1) := dk_129 (dk_at dksX3_freeSpot_2 18 rfl rfl)
theorem dX3_freeSpot_65 : decode cX3_freeSpot 65 = .ok (.lstore_n 2, 1) := dk_65 (dk_at dksX3_freeSpot_2 19 rfl rfl)
theorem dX3_freeSpot_66 : decode cX3_freeSpot 66 = .ok (.iinc 4 1, 3) := dk_132 4 1 (dk_at dksX3_freeSpot_2 20 rfl rfl)
theorem dX3_freeSpot_69 : decode cX3_freeSpot 69 = .ok (.goto (-56), 3) := dk_167 255 200 (dk_at dksX3_freeSpot_3 0 rfl rfl)
theorem dX3_freeSpot_72 : decode cX3_freeSpot 72 = .ok (.iconst 0, 1) := dk_3 (dk_at dksX3_freeSpot_3 3 rfl rfl)
theorem dX3_freeSpot_73 : decode cX3_freeSpot 73 = .ok (.istore 4, 2) := dk_54 4 (dk_at dksX3_freeSpot_3 4 rfl rfl)
theorem dX3_freeSpot_75 : decode cX3_freeSpot 75 = .ok (.iload 4, 2) := dk_21 4 (dk_at dksX3_freeSpot_3 6 rfl rfl)
theorem dX3_freeSpot_77 : decode cX3_freeSpot 77 = .ok (.aload_n 0, 1) := dk_42 (dk_at dksX3_freeSpot_3 8 rfl rfl)
theorem dX3_freeSpot_78 : decode cX3_freeSpot 78 = .ok (.getfield 3, 3) := dk_180 0 3 (dk_at dksX3_freeSpot_3 9 rfl rfl)
theorem dX3_freeSpot_81 : decode cX3_freeSpot 81 = .ok (.getfield 53, 3) := dk_180 0 53 (dk_at dksX3_freeSpot_3 12 rfl rfl)
theorem dX3_freeSpot_84 : decode cX3_freeSpot 84 = .ok (.getfield 209, 3) := dk_180 0 209 (dk_at dksX3_freeSpot_3 15 rfl rfl)
theorem dX3_freeSpot_87 : decode cX3_freeSpot 87 = .ok (.if_icmp .ge 57, 3) := dk_162 0 57 (dk_at dksX3_freeSpot_3 18 rfl rfl)
theorem dX3_freeSpot_90 : decode cX3_freeSpot 90 = .ok (.iconst 0, 1) := dk_3 (dk_at dksX3_freeSpot_3 21 rfl rfl)
theorem dX3_freeSpot_91 : decode cX3_freeSpot 91 = .ok (.istore 5, 2) := dk_54 5 (dk_at dksX3_freeSpot_3 22 rfl rfl)
theorem dX3_freeSpot_93 : decode cX3_freeSpot 93 = .ok (.iload 5, 2) := dk_21 5 (dk_at dksX3_freeSpot_4 0 rfl rfl)
theorem dX3_freeSpot_95 : decode cX3_freeSpot 95 = .ok (.aload_n 0, 1) := dk_42 (dk_at dksX3_freeSpot_4 2 rfl rfl)
theorem dX3_freeSpot_96 : decode cX3_freeSpot 96 = .ok (.getfield 3, 3) := dk_180 0 3 (dk_at dksX3_freeSpot_4 3 rfl rfl)
theorem dX3_freeSpot_99 : decode cX3_freeSpot 99 = .ok (.getfield 53, 3) := dk_180 0 53 (dk_at dksX3_freeSpot_4 6 rfl rfl)
theorem dX3_freeSpot_102 : decode cX3_freeSpot 102 = .ok (.getfield 212, 3) := dk_180 0 212 (dk_at dksX3_freeSpot_4 9 rfl rfl)
theorem dX3_freeSpot_105 : decode cX3_freeSpot 105 = .ok (.if_icmp .ge 33, 3) := dk_162 0 33 (dk_at dksX3_freeSpot_4 12 rfl rfl)
theorem dX3_freeSpot_108 : decode cX3_freeSpot 108 = .ok (.lload_n 2, 1) := dk_32 (dk_at dksX3_freeSpot_4 15 rfl rfl)
theorem dX3_freeSpot_109 : decode cX3_freeSpot 109 = .ok (.bipush 8, 2) := dk_16 8 (dk_at dksX3_freeSpot_4 16 rfl rfl)
theorem dX3_freeSpot_111 : decode cX3_freeSpot 111 = .ok (.iload 4, 2) := dk_21 4 (dk_at dksX3_freeSpot_4 18 rfl rfl)
theorem dX3_freeSpot_113 : decode cX3_freeSpot 113 = .ok (.imul, 1) := dk_104 (dk_at dksX3_freeSpot_4 20 rfl rfl)
theorem dX3_freeSpot_114 : decode cX3_freeSpot 114 = .ok (.iload 5, 2) := dk_21 5 (dk_at dksX3_freeSpot_4 21 rfl rfl)
theorem dX3_freeSpot_116 : decode cX3_freeSpot 116 = .ok (.iadd, 1) := dk_96 (dk_at dksX3_freeSpot_4 23 rfl rfl)
theorem dX3_freeSpot_117 : decode cX3_freeSpot 117 = .ok (.invokestatic 168, 3) := dk_184 0 168 (dk_at dksX3_freeSpot_5 0 rfl rfl)
theorem dX3_freeSpot_120 : decode cX3_freeSpot 120 = .ok (.ifCond .ne 12, 3) := dk_154 0 12 (dk_at dksX3_freeSpot_5 3 rfl rfl)
theorem dX3_freeSpot_123 : decode cX3_freeSpot 123 = .ok (.bipush 8, 2) := dk_16 8 (dk_at dksX3_freeSpot_5 6 rfl rfl)
theorem dX3_freeSpot_125 : decode cX3_freeSpot 125 = .ok (.iload 4, 2) := dk_21 4 (dk_at dksX3_freeSpot_5 8 rfl rfl)
theorem dX3_freeSpot_127 : decode cX3_freeSpot 127 = .ok (.imul, 1) := dk_104 (dk_at dksX3_freeSpot_5 10 rfl rfl)
theorem dX3_freeSpot_128 : decode cX3_freeSpot 128 = .ok (.iload 5, 2) := dk_21 5 (dk_at dksX3_freeSpot_5 11 rfl rfl)
theorem dX3_freeSpot_130 : decode cX3_freeSpot 130 = .ok (.iadd, 1) := dk_96 (dk_at dksX3_freeSpot_5 13 rfl rfl)
theorem dX3_freeSpot_131 : decode cX3_freeSpot 131 = .ok (.ireturn, 1) := dk_172 (dk_at dksX3_freeSpot_5 14 rfl rfl)
theorem dX3_freeSpot_132 : decode cX3_freeSpot 132 = .ok (.iinc 5 1, 3) := dk_132 5 1 (dk_at dksX3_freeSpot_5 15 rfl rfl)
theorem dX3_freeSpot_135 : decode cX3_freeSpot 135 = .ok (.goto (-42), 3) := dk_167 255 214 (dk_at dksX3_freeSpot_5 18 rfl rfl)
theorem dX3_freeSpot_138 : decode cX3_freeSpot 138 = .ok (.iinc 4 1, 3) := dk_132 4 1 (dk_at dksX3_freeSpot_5 21 rfl rfl)
theorem dX3_freeSpot_141 : decode cX3_freeSpot 141 = .ok (.goto (-66), 3) := dk_167 255 190 (dk_at dksX3_freeSpot_6 0 rfl rfl)
theorem dX3_freeSpot_144 : decode cX3_freeSpot 144 = .ok (.iconst (-1), 1) := dk_2 (dk_at dksX3_freeSpot_6 3 rfl rfl)
theorem dX3_freeSpot_145 : decode cX3_freeSpot 145 = .ok (.ireturn, 1) := dk_172 (dk_at dksX3_freeSpot_6 4 rfl rfl)
abbrev cX3_at : ByteArray := prog_8_method_10_code
def yX3_at : MethodName := ⟨RX3, "at", "(II)I"⟩
def dkwX3_at_0 : List UInt8 := [42, 180, 0, 15, 16, 7, 28, 104, 27, 96, 46, 172]
abbrev dktX3_at_0 : List UInt8 := dkwX3_at_0 ++ []
theorem dksX3_at_0 : cX3_at.data.toList.drop 0 = dktX3_at_0 := by decide +kernel
theorem dX3_at_0 : decode cX3_at 0 = .ok (.aload_n 0, 1) := dk_42 (dk_at dksX3_at_0 0 rfl rfl)
theorem dX3_at_1 : decode cX3_at 1 = .ok (.getfield 15, 3) := dk_180 0 15 (dk_at dksX3_at_0 1 rfl rfl)
theorem dX3_at_4 : decode cX3_at 4 = .ok (.bipush 7, 2) := dk_16 7 (dk_at dksX3_at_0 4 rfl rfl)
theorem dX3_at_6 : decode cX3_at 6 = .ok (.iload_n 2, 1) := dk_28 (dk_at dksX3_at_0 6 rfl rfl)
theorem dX3_at_7 : decode cX3_at 7 = .ok (.imul, 1) := dk_104 (dk_at dksX3_at_0 7 rfl rfl)
theorem dX3_at_8 : decode cX3_at 8 = .ok (.iload_n 1, 1) := dk_27 (dk_at dksX3_at_0 8 rfl rfl)
theorem dX3_at_9 : decode cX3_at 9 = .ok (.iadd, 1) := dk_96 (dk_at dksX3_at_0 9 rfl rfl)
theorem dX3_at_10 : decode cX3_at 10 = .ok (.iaload, 1) := dk_46 (dk_at dksX3_at_0 10 rfl rfl)
theorem dX3_at_11 : decode cX3_at 11 = .ok (.ireturn, 1) := dk_172 (dk_at dksX3_at_0 11 rfl rfl)
abbrev cX3_pegs : ByteArray := prog_8_method_11_code
def yX3_pegs : MethodName := ⟨RX3, "pegs", "(I)I"⟩
def dkwX3_pegs_0 : List UInt8 := [42, 180, 0, 44, 27, 47, 184, 0, 215, 42, 180, 0, 47, 27, 47, 184, 0, 215, 96, 172]
abbrev dktX3_pegs_0 : List UInt8 := dkwX3_pegs_0 ++ []
theorem dksX3_pegs_0 : cX3_pegs.data.toList.drop 0 = dktX3_pegs_0 := by decide +kernel
theorem dX3_pegs_0 : decode cX3_pegs 0 = .ok (.aload_n 0, 1) := dk_42 (dk_at dksX3_pegs_0 0 rfl rfl)
theorem dX3_pegs_1 : decode cX3_pegs 1 = .ok (.getfield 44, 3) := dk_180 0 44 (dk_at dksX3_pegs_0 1 rfl rfl)
theorem dX3_pegs_4 : decode cX3_pegs 4 = .ok (.iload_n 1, 1) := dk_27 (dk_at dksX3_pegs_0 4 rfl rfl)
theorem dX3_pegs_5 : decode cX3_pegs 5 = .ok (.laload, 1) := dk_47 (dk_at dksX3_pegs_0 5 rfl rfl)
theorem dX3_pegs_6 : decode cX3_pegs 6 = .ok (.invokestatic 215, 3) := dk_184 0 215 (dk_at dksX3_pegs_0 6 rfl rfl)
theorem dX3_pegs_9 : decode cX3_pegs 9 = .ok (.aload_n 0, 1) := dk_42 (dk_at dksX3_pegs_0 9 rfl rfl)
theorem dX3_pegs_10 : decode cX3_pegs 10 = .ok (.getfield 47, 3) := dk_180 0 47 (dk_at dksX3_pegs_0 10 rfl rfl)
theorem dX3_pegs_13 : decode cX3_pegs 13 = .ok (.iload_n 1, 1) := dk_27 (dk_at dksX3_pegs_0 13 rfl rfl)
theorem dX3_pegs_14 : decode cX3_pegs 14 = .ok (.laload, 1) := dk_47 (dk_at dksX3_pegs_0 14 rfl rfl)
theorem dX3_pegs_15 : decode cX3_pegs 15 = .ok (.invokestatic 215, 3) := dk_184 0 215 (dk_at dksX3_pegs_0 15 rfl rfl)
theorem dX3_pegs_18 : decode cX3_pegs 18 = .ok (.iadd, 1) := dk_96 (dk_at dksX3_pegs_0 18 rfl rfl)
theorem dX3_pegs_19 : decode cX3_pegs 19 = .ok (.ireturn, 1) := dk_172 (dk_at dksX3_pegs_0 19 rfl rfl)
abbrev cX3_isPeg : ByteArray := prog_8_method_13_code
def yX3_isPeg : MethodName := ⟨RX3, "isPeg", "(III)Z"⟩
def dkwX3_isPeg_2 : List UInt8 := [153, 0, 7, 4, 167, 0, 4, 3, 172]
abbrev dktX3_isPeg_2 : List UInt8 := dkwX3_isPeg_2 ++ []
def dkwX3_isPeg_1 : List UInt8 := [42, 180, 0, 44, 29, 47, 167, 0, 9, 42, 180, 0, 47, 29, 47, 27, 21, 4, 184, 0, 197, 184, 0, 168]
abbrev dktX3_isPeg_1 : List UInt8 := dkwX3_isPeg_1 ++ dktX3_isPeg_2
def dkwX3_isPeg_0 : List UInt8 := [42, 180, 0, 3, 27, 28, 182, 0, 176, 54, 4, 21, 4, 2, 159, 0, 41, 28, 5, 112, 4, 160, 0, 12]
abbrev dktX3_isPeg_0 : List UInt8 := dkwX3_isPeg_0 ++ dktX3_isPeg_1
theorem dksX3_isPeg_0 : cX3_isPeg.data.toList.drop 0 = dktX3_isPeg_0 := by decide +kernel
theorem dksX3_isPeg_1 : cX3_isPeg.data.toList.drop 24 = dktX3_isPeg_1 := dk_seg dksX3_isPeg_0 24 rfl rfl
theorem dksX3_isPeg_2 : cX3_isPeg.data.toList.drop 48 = dktX3_isPeg_2 := dk_seg dksX3_isPeg_1 24 rfl rfl
theorem dX3_isPeg_0 : decode cX3_isPeg 0 = .ok (.aload_n 0, 1) := dk_42 (dk_at dksX3_isPeg_0 0 rfl rfl)
theorem dX3_isPeg_1 : decode cX3_isPeg 1 = .ok (.getfield 3, 3) := dk_180 0 3 (dk_at dksX3_isPeg_0 1 rfl rfl)
theorem dX3_isPeg_4 : decode cX3_isPeg 4 = .ok (.iload_n 1, 1) := dk_27 (dk_at dksX3_isPeg_0 4 rfl rfl)
theorem dX3_isPeg_5 : decode cX3_isPeg 5 = .ok (.iload_n 2, 1) := dk_28 (dk_at dksX3_isPeg_0 5 rfl rfl)
theorem dX3_isPeg_6 : decode cX3_isPeg 6 = .ok (.invokevirtual 176, 3) := dk_182 0 176 (dk_at dksX3_isPeg_0 6 rfl rfl)
theorem dX3_isPeg_9 : decode cX3_isPeg 9 = .ok (.istore 4, 2) := dk_54 4 (dk_at dksX3_isPeg_0 9 rfl rfl)
theorem dX3_isPeg_11 : decode cX3_isPeg 11 = .ok (.iload 4, 2) := dk_21 4 (dk_at dksX3_isPeg_0 11 rfl rfl)
theorem dX3_isPeg_13 : decode cX3_isPeg 13 = .ok (.iconst (-1), 1) := dk_2 (dk_at dksX3_isPeg_0 13 rfl rfl)
theorem dX3_isPeg_14 : decode cX3_isPeg 14 = .ok (.if_icmp .eq 41, 3) := dk_159 0 41 (dk_at dksX3_isPeg_0 14 rfl rfl)
theorem dX3_isPeg_17 : decode cX3_isPeg 17 = .ok (.iload_n 2, 1) := dk_28 (dk_at dksX3_isPeg_0 17 rfl rfl)
theorem dX3_isPeg_18 : decode cX3_isPeg 18 = .ok (.iconst 2, 1) := dk_5 (dk_at dksX3_isPeg_0 18 rfl rfl)
theorem dX3_isPeg_19 : decode cX3_isPeg 19 = .ok (.irem, 1) := dk_112 (dk_at dksX3_isPeg_0 19 rfl rfl)
theorem dX3_isPeg_20 : decode cX3_isPeg 20 = .ok (.iconst 1, 1) := dk_4 (dk_at dksX3_isPeg_0 20 rfl rfl)
theorem dX3_isPeg_21 : decode cX3_isPeg 21 = .ok (.if_icmp .ne 12, 3) := dk_160 0 12 (dk_at dksX3_isPeg_0 21 rfl rfl)
theorem dX3_isPeg_24 : decode cX3_isPeg 24 = .ok (.aload_n 0, 1) := dk_42 (dk_at dksX3_isPeg_1 0 rfl rfl)
theorem dX3_isPeg_25 : decode cX3_isPeg 25 = .ok (.getfield 44, 3) := dk_180 0 44 (dk_at dksX3_isPeg_1 1 rfl rfl)
theorem dX3_isPeg_28 : decode cX3_isPeg 28 = .ok (.iload_n 3, 1) := dk_29 (dk_at dksX3_isPeg_1 4 rfl rfl)
theorem dX3_isPeg_29 : decode cX3_isPeg 29 = .ok (.laload, 1) := dk_47 (dk_at dksX3_isPeg_1 5 rfl rfl)
theorem dX3_isPeg_30 : decode cX3_isPeg 30 = .ok (.goto 9, 3) := dk_167 0 9 (dk_at dksX3_isPeg_1 6 rfl rfl)
theorem dX3_isPeg_33 : decode cX3_isPeg 33 = .ok (.aload_n 0, 1) := dk_42 (dk_at dksX3_isPeg_1 9 rfl rfl)
theorem dX3_isPeg_34 : decode cX3_isPeg 34 = .ok (.getfield 47, 3) := dk_180 0 47 (dk_at dksX3_isPeg_1 10 rfl rfl)
theorem dX3_isPeg_37 : decode cX3_isPeg 37 = .ok (.iload_n 3, 1) := dk_29 (dk_at dksX3_isPeg_1 13 rfl rfl)
theorem dX3_isPeg_38 : decode cX3_isPeg 38 = .ok (.laload, 1) := dk_47 (dk_at dksX3_isPeg_1 14 rfl rfl)
theorem dX3_isPeg_39 : decode cX3_isPeg 39 = .ok (.iload_n 1, 1) := dk_27 (dk_at dksX3_isPeg_1 15 rfl rfl)
theorem dX3_isPeg_40 : decode cX3_isPeg 40 = .ok (.iload 4, 2) := dk_21 4 (dk_at dksX3_isPeg_1 16 rfl rfl)
theorem dX3_isPeg_42 : decode cX3_isPeg 42 = .ok (.invokestatic 197, 3) := dk_184 0 197 (dk_at dksX3_isPeg_1 18 rfl rfl)
theorem dX3_isPeg_45 : decode cX3_isPeg 45 = .ok (.invokestatic 168, 3) := dk_184 0 168 (dk_at dksX3_isPeg_1 21 rfl rfl)
theorem dX3_isPeg_48 : decode cX3_isPeg 48 = .ok (.ifCond .eq 7, 3) := dk_153 0 7 (dk_at dksX3_isPeg_2 0 rfl rfl)
theorem dX3_isPeg_51 : decode cX3_isPeg 51 = .ok (.iconst 1, 1) := dk_4 (dk_at dksX3_isPeg_2 3 rfl rfl)
theorem dX3_isPeg_52 : decode cX3_isPeg 52 = .ok (.goto 4, 3) := dk_167 0 4 (dk_at dksX3_isPeg_2 4 rfl rfl)
theorem dX3_isPeg_55 : decode cX3_isPeg 55 = .ok (.iconst 0, 1) := dk_3 (dk_at dksX3_isPeg_2 7 rfl rfl)
theorem dX3_isPeg_56 : decode cX3_isPeg 56 = .ok (.ireturn, 1) := dk_172 (dk_at dksX3_isPeg_2 8 rfl rfl)
abbrev cX3_moved : ByteArray := prog_8_method_14_code
def yX3_moved : MethodName := ⟨RX3, "moved", "()I"⟩
def dkwX3_moved_1 : List UInt8 := [42, 180, 0, 31, 28, 46, 96, 60, 132, 2, 1, 167, 255, 225, 27, 172]
abbrev dktX3_moved_1 : List UInt8 := dkwX3_moved_1 ++ []
def dkwX3_moved_0 : List UInt8 := [3, 60, 3, 61, 28, 42, 180, 0, 3, 180, 0, 53, 180, 0, 134, 185, 0, 136, 1, 0, 162, 0, 18, 27]
abbrev dktX3_moved_0 : List UInt8 := dkwX3_moved_0 ++ dktX3_moved_1
theorem dksX3_moved_0 : cX3_moved.data.toList.drop 0 = dktX3_moved_0 := by decide +kernel
theorem dksX3_moved_1 : cX3_moved.data.toList.drop 24 = dktX3_moved_1 := dk_seg dksX3_moved_0 24 rfl rfl
theorem dX3_moved_0 : decode cX3_moved 0 = .ok (.iconst 0, 1) := dk_3 (dk_at dksX3_moved_0 0 rfl rfl)
theorem dX3_moved_1 : decode cX3_moved 1 = .ok (.istore_n 1, 1) := dk_60 (dk_at dksX3_moved_0 1 rfl rfl)
theorem dX3_moved_2 : decode cX3_moved 2 = .ok (.iconst 0, 1) := dk_3 (dk_at dksX3_moved_0 2 rfl rfl)
theorem dX3_moved_3 : decode cX3_moved 3 = .ok (.istore_n 2, 1) := dk_61 (dk_at dksX3_moved_0 3 rfl rfl)
theorem dX3_moved_4 : decode cX3_moved 4 = .ok (.iload_n 2, 1) := dk_28 (dk_at dksX3_moved_0 4 rfl rfl)
theorem dX3_moved_5 : decode cX3_moved 5 = .ok (.aload_n 0, 1) := dk_42 (dk_at dksX3_moved_0 5 rfl rfl)
theorem dX3_moved_6 : decode cX3_moved 6 = .ok (.getfield 3, 3) := dk_180 0 3 (dk_at dksX3_moved_0 6 rfl rfl)
theorem dX3_moved_9 : decode cX3_moved 9 = .ok (.getfield 53, 3) := dk_180 0 53 (dk_at dksX3_moved_0 9 rfl rfl)
theorem dX3_moved_12 : decode cX3_moved 12 = .ok (.getfield 134, 3) := dk_180 0 134 (dk_at dksX3_moved_0 12 rfl rfl)
theorem dX3_moved_15 : decode cX3_moved 15 = .ok (.invokeinterface 136 1, 5) := by decide +kernel
theorem dX3_moved_20 : decode cX3_moved 20 = .ok (.if_icmp .ge 18, 3) := dk_162 0 18 (dk_at dksX3_moved_0 20 rfl rfl)
theorem dX3_moved_23 : decode cX3_moved 23 = .ok (.iload_n 1, 1) := dk_27 (dk_at dksX3_moved_0 23 rfl rfl)
theorem dX3_moved_24 : decode cX3_moved 24 = .ok (.aload_n 0, 1) := dk_42 (dk_at dksX3_moved_1 0 rfl rfl)
theorem dX3_moved_25 : decode cX3_moved 25 = .ok (.getfield 31, 3) := dk_180 0 31 (dk_at dksX3_moved_1 1 rfl rfl)
theorem dX3_moved_28 : decode cX3_moved 28 = .ok (.iload_n 2, 1) := dk_28 (dk_at dksX3_moved_1 4 rfl rfl)
theorem dX3_moved_29 : decode cX3_moved 29 = .ok (.iaload, 1) := dk_46 (dk_at dksX3_moved_1 5 rfl rfl)
theorem dX3_moved_30 : decode cX3_moved 30 = .ok (.iadd, 1) := dk_96 (dk_at dksX3_moved_1 6 rfl rfl)
theorem dX3_moved_31 : decode cX3_moved 31 = .ok (.istore_n 1, 1) := dk_60 (dk_at dksX3_moved_1 7 rfl rfl)
theorem dX3_moved_32 : decode cX3_moved 32 = .ok (.iinc 2 1, 3) := dk_132 2 1 (dk_at dksX3_moved_1 8 rfl rfl)
theorem dX3_moved_35 : decode cX3_moved 35 = .ok (.goto (-31), 3) := dk_167 255 225 (dk_at dksX3_moved_1 11 rfl rfl)
theorem dX3_moved_38 : decode cX3_moved 38 = .ok (.iload_n 1, 1) := dk_27 (dk_at dksX3_moved_1 14 rfl rfl)
theorem dX3_moved_39 : decode cX3_moved 39 = .ok (.ireturn, 1) := dk_172 (dk_at dksX3_moved_1 15 rfl rfl)
abbrev cX3_last : ByteArray := prog_8_method_12_code
def yX3_last : MethodName := ⟨RX3, "last", "()I"⟩
def dkwX3_last_0 : List UInt8 := [42, 42, 180, 0, 3, 180, 0, 53, 180, 0, 148, 182, 0, 221, 172]
abbrev dktX3_last_0 : List UInt8 := dkwX3_last_0 ++ []
theorem dksX3_last_0 : cX3_last.data.toList.drop 0 = dktX3_last_0 := by decide +kernel
theorem dX3_last_0 : decode cX3_last 0 = .ok (.aload_n 0, 1) := dk_42 (dk_at dksX3_last_0 0 rfl rfl)
theorem dX3_last_1 : decode cX3_last 1 = .ok (.aload_n 0, 1) := dk_42 (dk_at dksX3_last_0 1 rfl rfl)
theorem dX3_last_2 : decode cX3_last 2 = .ok (.getfield 3, 3) := dk_180 0 3 (dk_at dksX3_last_0 2 rfl rfl)
theorem dX3_last_5 : decode cX3_last 5 = .ok (.getfield 53, 3) := dk_180 0 53 (dk_at dksX3_last_0 5 rfl rfl)
theorem dX3_last_8 : decode cX3_last 8 = .ok (.getfield 148, 3) := dk_180 0 148 (dk_at dksX3_last_0 8 rfl rfl)
theorem dX3_last_11 : decode cX3_last 11 = .ok (.invokevirtual 221, 3) := dk_182 0 221 (dk_at dksX3_last_0 11 rfl rfl)
theorem dX3_last_14 : decode cX3_last 14 = .ok (.ireturn, 1) := dk_172 (dk_at dksX3_last_0 14 rfl rfl)
theorem q147 : (Jvm.Cond.initialized "WidowRoads$Walks") ∈ lw_all := lw_g (lw_at lw_m1 7 rfl) rfl
theorem q441 : (Jvm.Cond.fieldLinkNest "WidowRoads$Walks" (134 : Nat) "WidowRoads$Colony" "houses" "Ljava/util/List;" "WidowRoads") ∈ lw_tbl := lw_at lw_m2 61 rfl
theorem q448 : (Jvm.Cond.fieldLinkNest "WidowRoads$Walks" (75 : Nat) "WidowRoads$Colony" "acts" "Ljava/util/List;" "WidowRoads") ∈ lw_tbl := lw_at lw_m2 68 rfl
theorem q451 : (Jvm.Cond.fieldLinkNest "WidowRoads$Walks" (148 : Nat) "WidowRoads$Colony" "years" "I" "WidowRoads") ∈ lw_tbl := lw_at lw_m2 71 rfl
theorem q454 : (Jvm.Cond.fieldLinkNest "WidowRoads$Walks" (57 : Nat) "WidowRoads$Colony" "law" "I" "WidowRoads") ∈ lw_tbl := lw_at lw_m2 74 rfl
theorem q462 : (Jvm.Cond.fieldLinkNest "WidowRoads$Walks" (209 : Nat) "WidowRoads$Colony" "wide" "I" "WidowRoads") ∈ lw_tbl := lw_at lw_m2 82 rfl
theorem q466 : (Jvm.Cond.fieldLinkNest "WidowRoads$Walks" (212 : Nat) "WidowRoads$Colony" "high" "I" "WidowRoads") ∈ lw_tbl := lw_at lw_m2 86 rfl
theorem q495 : (Jvm.Cond.instantiable "WidowRoads$Walks" (19 : Nat)) ∈ lw_all := lw_g (lw_at lw_m2 115 rfl) rfl
theorem q497 : (Jvm.Cond.instanceMethod ({ cls := "WidowRoads$Walks", name := "<init>", desc := "(LWidowRoads;)V" } : Jvm.MethodName)) ∈ lw_all := lw_g (lw_at lw_m2 117 rfl) rfl
theorem q498 : (Jvm.Cond.code ({ cls := "WidowRoads$Walks", name := "<init>", desc := "(LWidowRoads;)V" } : Jvm.MethodName) prog_8_method_1_code (2 : Nat) (Option.none : Option Jvm.ClassFile.FieldType)) ∈ lw_all := lw_g (lw_at lw_m2 118 rfl) rfl
theorem q499 : (Jvm.Cond.methodLink "WidowRoads$Walks" (9 : Nat) ({ cls := "java/lang/Object", name := "<init>", desc := "()V" } : Jvm.MethodName)) ∈ lw_all := lw_g (lw_at lw_m2 119 rfl) rfl
theorem q500 : (Jvm.Cond.fieldLink "WidowRoads$Walks" (15 : Nat) "WidowRoads$Walks" "at" "[I") ∈ lw_all := lw_g (lw_at lw_m2 120 rfl) rfl
theorem q501 : (Jvm.Cond.fieldLink "WidowRoads$Walks" (19 : Nat) "WidowRoads$Walks" "steps" "[I") ∈ lw_all := lw_g (lw_at lw_m2 121 rfl) rfl
theorem q503 : (Jvm.Cond.fieldLink "WidowRoads$Walks" (22 : Nat) "WidowRoads$Walks" "stands" "[I") ∈ lw_all := lw_g (lw_at lw_m2 123 rfl) rfl
theorem q505 : (Jvm.Cond.fieldLink "WidowRoads$Walks" (25 : Nat) "WidowRoads$Walks" "moves" "[I") ∈ lw_all := lw_g (lw_at lw_m2 125 rfl) rfl
theorem q507 : (Jvm.Cond.fieldLink "WidowRoads$Walks" (28 : Nat) "WidowRoads$Walks" "houses" "[I") ∈ lw_all := lw_g (lw_at lw_m2 127 rfl) rfl
theorem q509 : (Jvm.Cond.fieldLink "WidowRoads$Walks" (31 : Nat) "WidowRoads$Walks" "moved" "[I") ∈ lw_all := lw_g (lw_at lw_m2 129 rfl) rfl
theorem q511 : (Jvm.Cond.fieldLink "WidowRoads$Walks" (34 : Nat) "WidowRoads$Walks" "faces" "[I") ∈ lw_all := lw_g (lw_at lw_m2 131 rfl) rfl
theorem q513 : (Jvm.Cond.fieldLink "WidowRoads$Walks" (37 : Nat) "WidowRoads$Walks" "sole" "[I") ∈ lw_all := lw_g (lw_at lw_m2 133 rfl) rfl
theorem q515 : (Jvm.Cond.fieldLink "WidowRoads$Walks" (40 : Nat) "WidowRoads$Walks" "road" "[J") ∈ lw_all := lw_g (lw_at lw_m2 135 rfl) rfl
theorem q517 : (Jvm.Cond.fieldLink "WidowRoads$Walks" (44 : Nat) "WidowRoads$Walks" "right" "[J") ∈ lw_all := lw_g (lw_at lw_m2 137 rfl) rfl
theorem q518 : (Jvm.Cond.fieldLink "WidowRoads$Walks" (47 : Nat) "WidowRoads$Walks" "down" "[J") ∈ lw_all := lw_g (lw_at lw_m2 138 rfl) rfl
theorem q519 : (Jvm.Cond.fieldLink "WidowRoads$Walks" (50 : Nat) "WidowRoads$Walks" "been" "[J") ∈ lw_all := lw_g (lw_at lw_m2 139 rfl) rfl
theorem q521 : (Jvm.Cond.fieldLink "WidowRoads$Walks" (71 : Nat) "WidowRoads$Walks" "creeks" "J") ∈ lw_all := lw_g (lw_at lw_m2 141 rfl) rfl
theorem q523 : (Jvm.Cond.fieldLink "WidowRoads$Walks" (116 : Nat) "WidowRoads$Walks" "roads" "J") ∈ lw_all := lw_g (lw_at lw_m2 143 rfl) rfl
theorem q524 : (Jvm.Cond.fieldLink "WidowRoads$Walks" (119 : Nat) "WidowRoads$Walks" "rights" "J") ∈ lw_all := lw_g (lw_at lw_m2 144 rfl) rfl
theorem q525 : (Jvm.Cond.fieldLink "WidowRoads$Walks" (122 : Nat) "WidowRoads$Walks" "downs" "J") ∈ lw_all := lw_g (lw_at lw_m2 145 rfl) rfl
theorem q526 : (Jvm.Cond.fieldLink "WidowRoads$Walks" (63 : Nat) "WidowRoads$Walks" "law" "I") ∈ lw_all := lw_g (lw_at lw_m2 146 rfl) rfl
theorem q528 : (Jvm.Cond.fieldLink "WidowRoads$Walks" (64 : Nat) "WidowRoads$Walks" "stay" "I") ∈ lw_all := lw_g (lw_at lw_m2 148 rfl) rfl
theorem q530 : (Jvm.Cond.fieldLink "WidowRoads$Walks" (3 : Nat) "WidowRoads$Walks" "this$0" "LWidowRoads;") ∈ lw_all := lw_g (lw_at lw_m2 150 rfl) rfl
theorem q531 : (Jvm.Cond.laysFinal "WidowRoads$Walks" "WidowRoads$Walks" "at" "[I") ∈ lw_all := lw_g (lw_at lw_m2 151 rfl) rfl
theorem q532 : (Jvm.Cond.soleField "WidowRoads$Walks" "at") ∈ lw_all := lw_g (lw_at lw_m2 152 rfl) rfl
theorem q533 : (Jvm.Cond.laysFinal "WidowRoads$Walks" "WidowRoads$Walks" "steps" "[I") ∈ lw_all := lw_g (lw_at lw_m2 153 rfl) rfl
theorem q534 : (Jvm.Cond.soleField "WidowRoads$Walks" "steps") ∈ lw_all := lw_g (lw_at lw_m2 154 rfl) rfl
theorem q535 : (Jvm.Cond.laysFinal "WidowRoads$Walks" "WidowRoads$Walks" "stands" "[I") ∈ lw_all := lw_g (lw_at lw_m2 155 rfl) rfl
theorem q536 : (Jvm.Cond.soleField "WidowRoads$Walks" "stands") ∈ lw_all := lw_g (lw_at lw_m2 156 rfl) rfl
theorem q537 : (Jvm.Cond.laysFinal "WidowRoads$Walks" "WidowRoads$Walks" "moves" "[I") ∈ lw_all := lw_g (lw_at lw_m2 157 rfl) rfl
theorem q538 : (Jvm.Cond.soleField "WidowRoads$Walks" "moves") ∈ lw_all := lw_g (lw_at lw_m2 158 rfl) rfl
theorem q539 : (Jvm.Cond.laysFinal "WidowRoads$Walks" "WidowRoads$Walks" "houses" "[I") ∈ lw_all := lw_g (lw_at lw_m2 159 rfl) rfl
theorem q540 : (Jvm.Cond.soleField "WidowRoads$Walks" "houses") ∈ lw_all := lw_g (lw_at lw_m2 160 rfl) rfl
theorem q541 : (Jvm.Cond.laysFinal "WidowRoads$Walks" "WidowRoads$Walks" "moved" "[I") ∈ lw_all := lw_g (lw_at lw_m2 161 rfl) rfl
theorem q542 : (Jvm.Cond.soleField "WidowRoads$Walks" "moved") ∈ lw_all := lw_g (lw_at lw_m2 162 rfl) rfl
theorem q543 : (Jvm.Cond.laysFinal "WidowRoads$Walks" "WidowRoads$Walks" "faces" "[I") ∈ lw_all := lw_g (lw_at lw_m2 163 rfl) rfl
theorem q544 : (Jvm.Cond.soleField "WidowRoads$Walks" "faces") ∈ lw_all := lw_g (lw_at lw_m2 164 rfl) rfl
theorem q545 : (Jvm.Cond.laysFinal "WidowRoads$Walks" "WidowRoads$Walks" "sole" "[I") ∈ lw_all := lw_g (lw_at lw_m2 165 rfl) rfl
theorem q546 : (Jvm.Cond.soleField "WidowRoads$Walks" "sole") ∈ lw_all := lw_g (lw_at lw_m2 166 rfl) rfl
theorem q547 : (Jvm.Cond.laysFinal "WidowRoads$Walks" "WidowRoads$Walks" "road" "[J") ∈ lw_all := lw_g (lw_at lw_m2 167 rfl) rfl
theorem q548 : (Jvm.Cond.soleField "WidowRoads$Walks" "road") ∈ lw_all := lw_g (lw_at lw_m2 168 rfl) rfl
theorem q549 : (Jvm.Cond.laysFinal "WidowRoads$Walks" "WidowRoads$Walks" "right" "[J") ∈ lw_all := lw_g (lw_at lw_m2 169 rfl) rfl
theorem q550 : (Jvm.Cond.soleField "WidowRoads$Walks" "right") ∈ lw_all := lw_g (lw_at lw_m2 170 rfl) rfl
theorem q551 : (Jvm.Cond.laysFinal "WidowRoads$Walks" "WidowRoads$Walks" "down" "[J") ∈ lw_all := lw_g (lw_at lw_m2 171 rfl) rfl
theorem q552 : (Jvm.Cond.soleField "WidowRoads$Walks" "down") ∈ lw_all := lw_g (lw_at lw_m2 172 rfl) rfl
theorem q553 : (Jvm.Cond.laysFinal "WidowRoads$Walks" "WidowRoads$Walks" "been" "[J") ∈ lw_all := lw_g (lw_at lw_m2 173 rfl) rfl
theorem q554 : (Jvm.Cond.soleField "WidowRoads$Walks" "been") ∈ lw_all := lw_g (lw_at lw_m2 174 rfl) rfl
theorem q555 : (Jvm.Cond.lays "WidowRoads$Walks" "WidowRoads$Walks" "creeks" "J") ∈ lw_all := lw_g (lw_at lw_m2 175 rfl) rfl
theorem q556 : (Jvm.Cond.soleField "WidowRoads$Walks" "creeks") ∈ lw_all := lw_g (lw_at lw_m2 176 rfl) rfl
theorem q557 : (Jvm.Cond.lays "WidowRoads$Walks" "WidowRoads$Walks" "roads" "J") ∈ lw_all := lw_g (lw_at lw_m2 177 rfl) rfl
theorem q558 : (Jvm.Cond.soleField "WidowRoads$Walks" "roads") ∈ lw_all := lw_g (lw_at lw_m2 178 rfl) rfl
theorem q559 : (Jvm.Cond.lays "WidowRoads$Walks" "WidowRoads$Walks" "rights" "J") ∈ lw_all := lw_g (lw_at lw_m2 179 rfl) rfl
theorem q560 : (Jvm.Cond.soleField "WidowRoads$Walks" "rights") ∈ lw_all := lw_g (lw_at lw_m2 180 rfl) rfl
theorem q561 : (Jvm.Cond.lays "WidowRoads$Walks" "WidowRoads$Walks" "downs" "J") ∈ lw_all := lw_g (lw_at lw_m2 181 rfl) rfl
theorem q562 : (Jvm.Cond.soleField "WidowRoads$Walks" "downs") ∈ lw_all := lw_g (lw_at lw_m2 182 rfl) rfl
theorem q563 : (Jvm.Cond.lays "WidowRoads$Walks" "WidowRoads$Walks" "law" "I") ∈ lw_all := lw_g (lw_at lw_m2 183 rfl) rfl
theorem q564 : (Jvm.Cond.soleField "WidowRoads$Walks" "law") ∈ lw_all := lw_g (lw_at lw_m2 184 rfl) rfl
theorem q565 : (Jvm.Cond.lays "WidowRoads$Walks" "WidowRoads$Walks" "stay" "I") ∈ lw_all := lw_g (lw_at lw_m2 185 rfl) rfl
theorem q566 : (Jvm.Cond.soleField "WidowRoads$Walks" "stay") ∈ lw_all := lw_g (lw_at lw_m2 186 rfl) rfl
theorem q567 : (Jvm.Cond.laysFinal "WidowRoads$Walks" "WidowRoads$Walks" "this$0" "LWidowRoads;") ∈ lw_all := lw_g (lw_at lw_m2 187 rfl) rfl
theorem q568 : (Jvm.Cond.soleField "WidowRoads$Walks" "this$0") ∈ lw_all := lw_g (lw_at lw_m2 188 rfl) rfl
theorem q569 : (Jvm.Cond.superclass "WidowRoads$Walks" "java/lang/Object") ∈ lw_all := lw_g (lw_at lw_m2 189 rfl) rfl
theorem q618 : (Jvm.Cond.fieldLinkNest "WidowRoads$Walks" (53 : Nat) "WidowRoads" "now" "LWidowRoads$Colony;" "WidowRoads") ∈ lw_tbl := lw_at lw_m2 238 rfl
theorem q891 : (Jvm.Cond.selects "WidowRoads$Walks" ({ cls := "java/lang/Object", name := "equals", desc := "(Ljava/lang/Object;)Z" } : Jvm.MethodName) ({ cls := "java/lang/Object", name := "equals", desc := "(Ljava/lang/Object;)Z" } : Jvm.MethodName)) ∈ lw_all := lw_g (lw_at lw_m4 31 rfl) rfl
theorem q958 : (Jvm.Cond.selects "WidowRoads$Walks" ({ cls := "java/lang/Object", name := "getClass", desc := "()Ljava/lang/Class;" } : Jvm.MethodName) ({ cls := "java/lang/Object", name := "getClass", desc := "()Ljava/lang/Class;" } : Jvm.MethodName)) ∈ lw_all := lw_g (lw_at lw_m4 98 rfl) rfl
theorem q1003 : (Jvm.Cond.fieldLinkNest "WidowRoads$Walks" (184 : Nat) "WidowRoads$Widow" "spot" "I" "WidowRoads") ∈ lw_tbl := lw_at lw_m4 143 rfl
theorem q1006 : (Jvm.Cond.fieldLinkNest "WidowRoads$Walks" (112 : Nat) "WidowRoads$Widow" "faces" "I" "WidowRoads") ∈ lw_tbl := lw_at lw_m4 146 rfl
theorem q1009 : (Jvm.Cond.fieldLinkNest "WidowRoads$Walks" (157 : Nat) "WidowRoads$Widow" "year" "I" "WidowRoads") ∈ lw_tbl := lw_at lw_m4 149 rfl
theorem q1012 : (Jvm.Cond.fieldLinkNest "WidowRoads$Walks" (192 : Nat) "WidowRoads$Widow" "many" "I" "WidowRoads") ∈ lw_tbl := lw_at lw_m4 152 rfl
theorem q1015 : (Jvm.Cond.fieldLinkNest "WidowRoads$Walks" (189 : Nat) "WidowRoads$Widow" "grief" "[I" "WidowRoads") ∈ lw_tbl := lw_at lw_m4 155 rfl
theorem q1018 : (Jvm.Cond.fieldLinkNest "WidowRoads$Walks" (187 : Nat) "WidowRoads$Widow" "steps" "I" "WidowRoads") ∈ lw_tbl := lw_at lw_m4 158 rfl
theorem q1050 : (Jvm.Cond.instanceMethod ({ cls := "WidowRoads$Walks", name := "is", desc := "()LWidowRoads$Walks;" } : Jvm.MethodName)) ∈ lw_all := lw_g (lw_at lw_m4 190 rfl) rfl
theorem q1051 : (Jvm.Cond.selects "WidowRoads$Walks" ({ cls := "WidowRoads$Walks", name := "is", desc := "()LWidowRoads$Walks;" } : Jvm.MethodName) ({ cls := "WidowRoads$Walks", name := "is", desc := "()LWidowRoads$Walks;" } : Jvm.MethodName)) ∈ lw_all := lw_g (lw_at lw_m4 191 rfl) rfl
theorem q1052 : (Jvm.Cond.code ({ cls := "WidowRoads$Walks", name := "is", desc := "()LWidowRoads$Walks;" } : Jvm.MethodName) prog_8_method_2_code (3 : Nat) (Option.some (Jvm.ClassFile.FieldType.object "WidowRoads$Walks"))) ∈ lw_all := lw_g (lw_at lw_m4 192 rfl) rfl
theorem q1053 : (Jvm.Cond.methodLinkNest "WidowRoads$Walks" (67 : Nat) ({ cls := "WidowRoads", name := "creeksNow", desc := "()J" } : Jvm.MethodName) "WidowRoads") ∈ lw_tbl := lw_at lw_m4 193 rfl
theorem q1112 : (Jvm.Cond.interfaceEntry "WidowRoads$Walks" (79 : Nat)) ∈ lw_tbl := lw_at lw_m5 12 rfl
theorem q1113 : (Jvm.Cond.methodLink "WidowRoads$Walks" (79 : Nat) ({ cls := "java/util/List", name := "iterator", desc := "()Ljava/util/Iterator;" } : Jvm.MethodName)) ∈ lw_all := lw_g (lw_at lw_m5 13 rfl) rfl
theorem q1114 : (Jvm.Cond.interfaceEntry "WidowRoads$Walks" (85 : Nat)) ∈ lw_tbl := lw_at lw_m5 14 rfl
theorem q1115 : (Jvm.Cond.methodLink "WidowRoads$Walks" (85 : Nat) ({ cls := "java/util/Iterator", name := "hasNext", desc := "()Z" } : Jvm.MethodName)) ∈ lw_all := lw_g (lw_at lw_m5 15 rfl) rfl
theorem q1116 : (Jvm.Cond.interfaceEntry "WidowRoads$Walks" (91 : Nat)) ∈ lw_tbl := lw_at lw_m5 16 rfl
theorem q1117 : (Jvm.Cond.methodLink "WidowRoads$Walks" (91 : Nat) ({ cls := "java/util/Iterator", name := "next", desc := "()Ljava/lang/Object;" } : Jvm.MethodName)) ∈ lw_all := lw_g (lw_at lw_m5 17 rfl) rfl
theorem q1118 : (Jvm.Cond.classLink "WidowRoads$Walks" (95 : Nat) "WidowRoads$Deed") ∈ lw_all := lw_g (lw_at lw_m5 18 rfl) rfl
theorem q1119 : (Jvm.Cond.methodLinkNest "WidowRoads$Walks" (104 : Nat) ({ cls := "WidowRoads", name := "many", desc := "()I" } : Jvm.MethodName) "WidowRoads") ∈ lw_tbl := lw_at lw_m5 19 rfl
theorem q1125 : (Jvm.Cond.methodLinkNest "WidowRoads$Walks" (108 : Nat) ({ cls := "WidowRoads", name := "widowOf", desc := "(I)LWidowRoads$Widow;" } : Jvm.MethodName) "WidowRoads") ∈ lw_tbl := lw_at lw_m5 25 rfl
theorem q1148 : (Jvm.Cond.instanceMethod ({ cls := "WidowRoads$Walks", name := "goes", desc := "()LWidowRoads$Walks;" } : Jvm.MethodName)) ∈ lw_all := lw_g (lw_at lw_m5 48 rfl) rfl
theorem q1149 : (Jvm.Cond.selects "WidowRoads$Walks" ({ cls := "WidowRoads$Walks", name := "goes", desc := "()LWidowRoads$Walks;" } : Jvm.MethodName) ({ cls := "WidowRoads$Walks", name := "goes", desc := "()LWidowRoads$Walks;" } : Jvm.MethodName)) ∈ lw_all := lw_g (lw_at lw_m5 49 rfl) rfl
theorem q1150 : (Jvm.Cond.code ({ cls := "WidowRoads$Walks", name := "goes", desc := "()LWidowRoads$Walks;" } : Jvm.MethodName) prog_8_method_3_code (3 : Nat) (Option.some (Jvm.ClassFile.FieldType.object "WidowRoads$Walks"))) ∈ lw_all := lw_g (lw_at lw_m5 50 rfl) rfl
theorem q1151 : (Jvm.Cond.methodLink "WidowRoads$Walks" (125 : Nat) ({ cls := "java/util/Arrays", name := "fill", desc := "([II)V" } : Jvm.MethodName)) ∈ lw_all := lw_g (lw_at lw_m5 51 rfl) rfl
theorem q1154 : (Jvm.Cond.methodLink "WidowRoads$Walks" (131 : Nat) ({ cls := "java/util/Arrays", name := "fill", desc := "([JJ)V" } : Jvm.MethodName)) ∈ lw_all := lw_g (lw_at lw_m5 54 rfl) rfl
theorem q1157 : (Jvm.Cond.interfaceEntry "WidowRoads$Walks" (136 : Nat)) ∈ lw_tbl := lw_at lw_m5 57 rfl
theorem q1158 : (Jvm.Cond.methodLink "WidowRoads$Walks" (136 : Nat) ({ cls := "java/util/List", name := "size", desc := "()I" } : Jvm.MethodName)) ∈ lw_all := lw_g (lw_at lw_m5 58 rfl) rfl
theorem q1159 : (Jvm.Cond.interfaceEntry "WidowRoads$Walks" (139 : Nat)) ∈ lw_tbl := lw_at lw_m5 59 rfl
theorem q1160 : (Jvm.Cond.methodLink "WidowRoads$Walks" (139 : Nat) ({ cls := "java/util/List", name := "get", desc := "(I)Ljava/lang/Object;" } : Jvm.MethodName)) ∈ lw_all := lw_g (lw_at lw_m5 60 rfl) rfl
theorem q1161 : (Jvm.Cond.classLink "WidowRoads$Walks" (143 : Nat) "java/lang/Integer") ∈ lw_all := lw_g (lw_at lw_m5 61 rfl) rfl
theorem q1162 : (Jvm.Cond.methodLink "WidowRoads$Walks" (145 : Nat) ({ cls := "java/lang/Integer", name := "intValue", desc := "()I" } : Jvm.MethodName)) ∈ lw_all := lw_g (lw_at lw_m5 62 rfl) rfl
theorem q1163 : (Jvm.Cond.methodLink "WidowRoads$Walks" (151 : Nat) ({ cls := "java/lang/System", name := "arraycopy", desc := "(Ljava/lang/Object;ILjava/lang/Object;II)V" } : Jvm.MethodName)) ∈ lw_all := lw_g (lw_at lw_m5 63 rfl) rfl
theorem q1164 : (Jvm.Cond.methodLinkNest "WidowRoads$Walks" (160 : Nat) ({ cls := "WidowRoads", name := "isOn", desc := "(II)Z" } : Jvm.MethodName) "WidowRoads") ∈ lw_tbl := lw_at lw_m5 64 rfl
theorem q1167 : (Jvm.Cond.methodLink "WidowRoads$Walks" (164 : Nat) ({ cls := "WidowRoads$Walks", name := "walks", desc := "(II)V" } : Jvm.MethodName)) ∈ lw_all := lw_g (lw_at lw_m5 67 rfl) rfl
theorem q1168 : (Jvm.Cond.privateMethod ({ cls := "WidowRoads$Walks", name := "walks", desc := "(II)V" } : Jvm.MethodName)) ∈ lw_tbl := lw_at lw_m5 68 rfl
theorem q1169 : (Jvm.Cond.instanceMethod ({ cls := "WidowRoads$Walks", name := "walks", desc := "(II)V" } : Jvm.MethodName)) ∈ lw_all := lw_g (lw_at lw_m5 69 rfl) rfl
theorem q1170 : (Jvm.Cond.code ({ cls := "WidowRoads$Walks", name := "walks", desc := "(II)V" } : Jvm.MethodName) prog_8_method_7_code (15 : Nat) (Option.none : Option Jvm.ClassFile.FieldType)) ∈ lw_all := lw_g (lw_at lw_m5 70 rfl) rfl
theorem q1171 : (Jvm.Cond.methodLink "WidowRoads$Walks" (194 : Nat) ({ cls := "WidowRoads$Walks", name := "isAny", desc := "(IJ)Z" } : Jvm.MethodName)) ∈ lw_all := lw_g (lw_at lw_m5 71 rfl) rfl
theorem q1172 : (Jvm.Cond.privateMethod ({ cls := "WidowRoads$Walks", name := "isAny", desc := "(IJ)Z" } : Jvm.MethodName)) ∈ lw_tbl := lw_at lw_m5 72 rfl
theorem q1173 : (Jvm.Cond.instanceMethod ({ cls := "WidowRoads$Walks", name := "isAny", desc := "(IJ)Z" } : Jvm.MethodName)) ∈ lw_all := lw_g (lw_at lw_m5 73 rfl) rfl
theorem q1174 : (Jvm.Cond.code ({ cls := "WidowRoads$Walks", name := "isAny", desc := "(IJ)Z" } : Jvm.MethodName) prog_8_method_6_code (5 : Nat) (Option.some Jvm.ClassFile.FieldType.boolean)) ∈ lw_all := lw_g (lw_at lw_m5 74 rfl) rfl
theorem q1175 : (Jvm.Cond.methodLinkNest "WidowRoads$Walks" (176 : Nat) ({ cls := "WidowRoads", name := "beside", desc := "(II)I" } : Jvm.MethodName) "WidowRoads") ∈ lw_tbl := lw_at lw_m5 75 rfl
theorem q1179 : (Jvm.Cond.methodLink "WidowRoads$Walks" (180 : Nat) ({ cls := "WidowRoads$Walks", name := "isFree", desc := "(IJ)Z" } : Jvm.MethodName)) ∈ lw_all := lw_g (lw_at lw_m5 79 rfl) rfl
theorem q1180 : (Jvm.Cond.privateMethod ({ cls := "WidowRoads$Walks", name := "isFree", desc := "(IJ)Z" } : Jvm.MethodName)) ∈ lw_tbl := lw_at lw_m5 80 rfl
theorem q1181 : (Jvm.Cond.instanceMethod ({ cls := "WidowRoads$Walks", name := "isFree", desc := "(IJ)Z" } : Jvm.MethodName)) ∈ lw_all := lw_g (lw_at lw_m5 81 rfl) rfl
theorem q1182 : (Jvm.Cond.code ({ cls := "WidowRoads$Walks", name := "isFree", desc := "(IJ)Z" } : Jvm.MethodName) prog_8_method_5_code (4 : Nat) (Option.some Jvm.ClassFile.FieldType.boolean)) ∈ lw_all := lw_g (lw_at lw_m5 82 rfl) rfl
theorem q1183 : (Jvm.Cond.methodLink "WidowRoads$Walks" (172 : Nat) ({ cls := "WidowRoads$Walks", name := "isLand", desc := "(I)Z" } : Jvm.MethodName)) ∈ lw_all := lw_g (lw_at lw_m5 83 rfl) rfl
theorem q1184 : (Jvm.Cond.privateMethod ({ cls := "WidowRoads$Walks", name := "isLand", desc := "(I)Z" } : Jvm.MethodName)) ∈ lw_tbl := lw_at lw_m5 84 rfl
theorem q1185 : (Jvm.Cond.instanceMethod ({ cls := "WidowRoads$Walks", name := "isLand", desc := "(I)Z" } : Jvm.MethodName)) ∈ lw_all := lw_g (lw_at lw_m5 85 rfl) rfl
theorem q1186 : (Jvm.Cond.code ({ cls := "WidowRoads$Walks", name := "isLand", desc := "(I)Z" } : Jvm.MethodName) prog_8_method_4_code (2 : Nat) (Option.some Jvm.ClassFile.FieldType.boolean)) ∈ lw_all := lw_g (lw_at lw_m5 86 rfl) rfl
theorem q1187 : (Jvm.Cond.methodLinkNest "WidowRoads$Walks" (168 : Nat) ({ cls := "WidowRoads", name := "isIn", desc := "(JI)Z" } : Jvm.MethodName) "WidowRoads") ∈ lw_tbl := lw_at lw_m5 87 rfl
theorem q1190 : (Jvm.Cond.methodLink "WidowRoads$Walks" (197 : Nat) ({ cls := "java/lang/Math", name := "min", desc := "(II)I" } : Jvm.MethodName)) ∈ lw_all := lw_g (lw_at lw_m5 90 rfl) rfl
theorem q1191 : (Jvm.Cond.methodLink "WidowRoads$Walks" (202 : Nat) ({ cls := "WidowRoads$Walks", name := "shifts", desc := "(II)V" } : Jvm.MethodName)) ∈ lw_all := lw_g (lw_at lw_m5 91 rfl) rfl
theorem q1192 : (Jvm.Cond.privateMethod ({ cls := "WidowRoads$Walks", name := "shifts", desc := "(II)V" } : Jvm.MethodName)) ∈ lw_tbl := lw_at lw_m5 92 rfl
theorem q1193 : (Jvm.Cond.instanceMethod ({ cls := "WidowRoads$Walks", name := "shifts", desc := "(II)V" } : Jvm.MethodName)) ∈ lw_all := lw_g (lw_at lw_m5 93 rfl) rfl
theorem q1194 : (Jvm.Cond.code ({ cls := "WidowRoads$Walks", name := "shifts", desc := "(II)V" } : Jvm.MethodName) prog_8_method_8_code (5 : Nat) (Option.none : Option Jvm.ClassFile.FieldType)) ∈ lw_all := lw_g (lw_at lw_m5 94 rfl) rfl
theorem q1195 : (Jvm.Cond.methodLink "WidowRoads$Walks" (205 : Nat) ({ cls := "WidowRoads$Walks", name := "freeSpot", desc := "(I)I" } : Jvm.MethodName)) ∈ lw_all := lw_g (lw_at lw_m5 95 rfl) rfl
theorem q1196 : (Jvm.Cond.privateMethod ({ cls := "WidowRoads$Walks", name := "freeSpot", desc := "(I)I" } : Jvm.MethodName)) ∈ lw_tbl := lw_at lw_m5 96 rfl
theorem q1197 : (Jvm.Cond.instanceMethod ({ cls := "WidowRoads$Walks", name := "freeSpot", desc := "(I)I" } : Jvm.MethodName)) ∈ lw_all := lw_g (lw_at lw_m5 97 rfl) rfl
theorem q1198 : (Jvm.Cond.code ({ cls := "WidowRoads$Walks", name := "freeSpot", desc := "(I)I" } : Jvm.MethodName) prog_8_method_9_code (6 : Nat) (Option.some Jvm.ClassFile.FieldType.int)) ∈ lw_all := lw_g (lw_at lw_m5 98 rfl) rfl
theorem q1238 : (Jvm.Cond.instanceMethod ({ cls := "WidowRoads$Walks", name := "at", desc := "(II)I" } : Jvm.MethodName)) ∈ lw_all := lw_g (lw_at lw_m5 138 rfl) rfl
theorem q1239 : (Jvm.Cond.selects "WidowRoads$Walks" ({ cls := "WidowRoads$Walks", name := "at", desc := "(II)I" } : Jvm.MethodName) ({ cls := "WidowRoads$Walks", name := "at", desc := "(II)I" } : Jvm.MethodName)) ∈ lw_all := lw_g (lw_at lw_m5 139 rfl) rfl
theorem q1240 : (Jvm.Cond.code ({ cls := "WidowRoads$Walks", name := "at", desc := "(II)I" } : Jvm.MethodName) prog_8_method_10_code (3 : Nat) (Option.some Jvm.ClassFile.FieldType.int)) ∈ lw_all := lw_g (lw_at lw_m5 140 rfl) rfl
theorem q1323 : (Jvm.Cond.instanceMethod ({ cls := "WidowRoads$Walks", name := "pegs", desc := "(I)I" } : Jvm.MethodName)) ∈ lw_all := lw_g (lw_at lw_m5 223 rfl) rfl
theorem q1324 : (Jvm.Cond.selects "WidowRoads$Walks" ({ cls := "WidowRoads$Walks", name := "pegs", desc := "(I)I" } : Jvm.MethodName) ({ cls := "WidowRoads$Walks", name := "pegs", desc := "(I)I" } : Jvm.MethodName)) ∈ lw_all := lw_g (lw_at lw_m5 224 rfl) rfl
theorem q1325 : (Jvm.Cond.code ({ cls := "WidowRoads$Walks", name := "pegs", desc := "(I)I" } : Jvm.MethodName) prog_8_method_11_code (2 : Nat) (Option.some Jvm.ClassFile.FieldType.int)) ∈ lw_all := lw_g (lw_at lw_m5 225 rfl) rfl
theorem q1326 : (Jvm.Cond.methodLink "WidowRoads$Walks" (215 : Nat) ({ cls := "java/lang/Long", name := "bitCount", desc := "(J)I" } : Jvm.MethodName)) ∈ lw_all := lw_g (lw_at lw_m5 226 rfl) rfl
theorem q1336 : (Jvm.Cond.instanceMethod ({ cls := "WidowRoads$Walks", name := "isPeg", desc := "(III)Z" } : Jvm.MethodName)) ∈ lw_all := lw_g (lw_at lw_m5 236 rfl) rfl
theorem q1337 : (Jvm.Cond.selects "WidowRoads$Walks" ({ cls := "WidowRoads$Walks", name := "isPeg", desc := "(III)Z" } : Jvm.MethodName) ({ cls := "WidowRoads$Walks", name := "isPeg", desc := "(III)Z" } : Jvm.MethodName)) ∈ lw_all := lw_g (lw_at lw_m5 237 rfl) rfl
theorem q1338 : (Jvm.Cond.code ({ cls := "WidowRoads$Walks", name := "isPeg", desc := "(III)Z" } : Jvm.MethodName) prog_8_method_13_code (5 : Nat) (Option.some Jvm.ClassFile.FieldType.boolean)) ∈ lw_all := lw_g (lw_at lw_m5 238 rfl) rfl
theorem q1481 : (Jvm.Cond.instanceMethod ({ cls := "WidowRoads$Walks", name := "moved", desc := "()I" } : Jvm.MethodName)) ∈ lw_all := lw_g (lw_at lw_m6 141 rfl) rfl
theorem q1482 : (Jvm.Cond.selects "WidowRoads$Walks" ({ cls := "WidowRoads$Walks", name := "moved", desc := "()I" } : Jvm.MethodName) ({ cls := "WidowRoads$Walks", name := "moved", desc := "()I" } : Jvm.MethodName)) ∈ lw_all := lw_g (lw_at lw_m6 142 rfl) rfl
theorem q1483 : (Jvm.Cond.code ({ cls := "WidowRoads$Walks", name := "moved", desc := "()I" } : Jvm.MethodName) prog_8_method_14_code (3 : Nat) (Option.some Jvm.ClassFile.FieldType.int)) ∈ lw_all := lw_g (lw_at lw_m6 143 rfl) rfl
theorem q1489 : (Jvm.Cond.instanceMethod ({ cls := "WidowRoads$Walks", name := "last", desc := "()I" } : Jvm.MethodName)) ∈ lw_all := lw_g (lw_at lw_m6 149 rfl) rfl
theorem q1490 : (Jvm.Cond.selects "WidowRoads$Walks" ({ cls := "WidowRoads$Walks", name := "last", desc := "()I" } : Jvm.MethodName) ({ cls := "WidowRoads$Walks", name := "last", desc := "()I" } : Jvm.MethodName)) ∈ lw_all := lw_g (lw_at lw_m6 150 rfl) rfl
theorem q1491 : (Jvm.Cond.code ({ cls := "WidowRoads$Walks", name := "last", desc := "()I" } : Jvm.MethodName) prog_8_method_12_code (1 : Nat) (Option.some Jvm.ClassFile.FieldType.int)) ∈ lw_all := lw_g (lw_at lw_m6 151 rfl) rfl
theorem q1492 : (Jvm.Cond.methodLink "WidowRoads$Walks" (221 : Nat) ({ cls := "WidowRoads$Walks", name := "pegs", desc := "(I)I" } : Jvm.MethodName)) ∈ lw_all := lw_g (lw_at lw_m6 152 rfl) rfl
theorem q1662 : (Jvm.Cond.fieldLinkNest "WidowRoads$Walks" (97 : Nat) "WidowRoads$Deed" "isBridge" "Z" "WidowRoads") ∈ lw_tbl := lw_at lw_m7 82 rfl
theorem q1665 : (Jvm.Cond.fieldLinkNest "WidowRoads$Walks" (101 : Nat) "WidowRoads$Deed" "of" "I" "WidowRoads") ∈ lw_tbl := lw_at lw_m7 85 rfl
theorem q2590 : (Jvm.Cond.castable "WidowRoads$Walks" "java/lang/Object") ∈ lw_tbl := lw_at lw_m11 50 rfl
theorem in_X3 : ∀ w ∈ wsX30, w ∈ lw_all := lw_in wsX30 [531, 533, 535, 537, 539, 541, 543, 545, 547, 549, 551, 553, 555, 557, 559, 561, 563, 565, 567] (by decide +kernel) (by decide +kernel)
/-! WidowRoads$Way -/
set_option maxRecDepth 100000
def RX4 : String := "WidowRoads$Way"
def TX4 : u_T := fun k => match k with
  | 0 => ("WidowRoads$Way", "far", "[I", true)
  | 1 => ("WidowRoads$Way", "queue", "[I", true)
  | 2 => ("WidowRoads$Way", "many", "I", false)
  | _ => ("WidowRoads$Way", "this$0", "LWidowRoads;", true)
def tyX4 : Nat → FieldType := fun k => match k with
  | 0 => .array .int
  | 1 => .array .int
  | 2 => .int
  | _ => .object "WidowRoads"
abbrev wsX40 : List Cond := u_ws RX4 TX4 4
theorem nmX4 : ∀ a, a < 4 → ∀ b, b < 4 → a ≠ b → (TX4 a).2.1 ≠ (TX4 b).2.1 := by decide +kernel
theorem tyX4_ok : ∀ k, k < 4 → parseFieldDescriptor (TX4 k).2.2.1 = some (tyX4 k) := by decide +kernel
abbrev cX4_init : ByteArray := prog_9_method_1_code
def yX4_init : MethodName := ⟨RX4, "<init>", "(LWidowRoads;)V"⟩
def dkwX4_init_1 : List UInt8 := [181, 0, 19, 177]
abbrev dktX4_init_1 : List UInt8 := dkwX4_init_1 ++ []
def dkwX4_init_0 : List UInt8 := [42, 43, 181, 0, 3, 42, 183, 0, 9, 42, 16, 64, 188, 10, 181, 0, 15, 42, 16, 64, 188, 10]
abbrev dktX4_init_0 : List UInt8 := dkwX4_init_0 ++ dktX4_init_1
theorem dksX4_init_0 : cX4_init.data.toList.drop 0 = dktX4_init_0 := by decide +kernel
theorem dksX4_init_1 : cX4_init.data.toList.drop 22 = dktX4_init_1 := dk_seg dksX4_init_0 22 rfl rfl
theorem dX4_init_0 : decode cX4_init 0 = .ok (.aload_n 0, 1) := dk_42 (dk_at dksX4_init_0 0 rfl rfl)
theorem dX4_init_1 : decode cX4_init 1 = .ok (.aload_n 1, 1) := dk_43 (dk_at dksX4_init_0 1 rfl rfl)
theorem dX4_init_2 : decode cX4_init 2 = .ok (.putfield 3, 3) := dk_181 0 3 (dk_at dksX4_init_0 2 rfl rfl)
theorem dX4_init_5 : decode cX4_init 5 = .ok (.aload_n 0, 1) := dk_42 (dk_at dksX4_init_0 5 rfl rfl)
theorem dX4_init_6 : decode cX4_init 6 = .ok (.invokespecial 9, 3) := dk_183 0 9 (dk_at dksX4_init_0 6 rfl rfl)
theorem dX4_init_9 : decode cX4_init 9 = .ok (.aload_n 0, 1) := dk_42 (dk_at dksX4_init_0 9 rfl rfl)
theorem dX4_init_10 : decode cX4_init 10 = .ok (.bipush 64, 2) := dk_16 64 (dk_at dksX4_init_0 10 rfl rfl)
theorem dX4_init_12 : decode cX4_init 12 = .ok (.newarray .int, 2) := dk_188_10 (dk_at dksX4_init_0 12 rfl rfl)
theorem dX4_init_14 : decode cX4_init 14 = .ok (.putfield 15, 3) := dk_181 0 15 (dk_at dksX4_init_0 14 rfl rfl)
theorem dX4_init_17 : decode cX4_init 17 = .ok (.aload_n 0, 1) := dk_42 (dk_at dksX4_init_0 17 rfl rfl)
theorem dX4_init_18 : decode cX4_init 18 = .ok (.bipush 64, 2) := dk_16 64 (dk_at dksX4_init_0 18 rfl rfl)
theorem dX4_init_20 : decode cX4_init 20 = .ok (.newarray .int, 2) := dk_188_10 (dk_at dksX4_init_0 20 rfl rfl)
theorem dX4_init_22 : decode cX4_init 22 = .ok (.putfield 19, 3) := dk_181 0 19 (dk_at dksX4_init_1 0 rfl rfl)
theorem dX4_init_25 : decode cX4_init 25 = .ok (.return_, 1) := dk_177 (dk_at dksX4_init_1 3 rfl rfl)
abbrev cX4_over : ByteArray := prog_9_method_4_code
def yX4_over : MethodName := ⟨RX4, "over", "(IJ)LWidowRoads$Way;"⟩
def dkwX4_over_3 : List UInt8 := [182, 0, 44, 132, 5, 1, 167, 255, 201, 132, 4, 1, 167, 255, 183, 42, 176]
abbrev dktX4_over_3 : List UInt8 := dkwX4_over_3 ++ []
def dkwX4_over_2 : List UInt8 := [159, 0, 25, 32, 21, 6, 184, 0, 40, 154, 0, 16, 42, 42, 180, 0, 19, 21, 4, 46, 21, 6]
abbrev dktX4_over_2 : List UInt8 := dkwX4_over_2 ++ dktX4_over_3
def dkwX4_over_1 : List UInt8 := [162, 0, 55, 42, 180, 0, 3, 42, 180, 0, 19, 21, 4, 46, 21, 5, 182, 0, 36, 54, 6, 21, 6, 2]
abbrev dktX4_over_1 : List UInt8 := dkwX4_over_1 ++ dktX4_over_2
def dkwX4_over_0 : List UInt8 := [42, 27, 182, 0, 32, 3, 54, 4, 21, 4, 42, 180, 0, 28, 162, 0, 70, 3, 54, 5, 21, 5, 7]
abbrev dktX4_over_0 : List UInt8 := dkwX4_over_0 ++ dktX4_over_1
theorem dksX4_over_0 : cX4_over.data.toList.drop 0 = dktX4_over_0 := by decide +kernel
theorem dksX4_over_1 : cX4_over.data.toList.drop 23 = dktX4_over_1 := dk_seg dksX4_over_0 23 rfl rfl
theorem dksX4_over_2 : cX4_over.data.toList.drop 47 = dktX4_over_2 := dk_seg dksX4_over_1 24 rfl rfl
theorem dksX4_over_3 : cX4_over.data.toList.drop 69 = dktX4_over_3 := dk_seg dksX4_over_2 22 rfl rfl
theorem dX4_over_0 : decode cX4_over 0 = .ok (.aload_n 0, 1) := dk_42 (dk_at dksX4_over_0 0 rfl rfl)
theorem dX4_over_1 : decode cX4_over 1 = .ok (.iload_n 1, 1) := dk_27 (dk_at dksX4_over_0 1 rfl rfl)
theorem dX4_over_2 : decode cX4_over 2 = .ok (.invokevirtual 32, 3) := dk_182 0 32 (dk_at dksX4_over_0 2 rfl rfl)
theorem dX4_over_5 : decode cX4_over 5 = .ok (.iconst 0, 1) := dk_3 (dk_at dksX4_over_0 5 rfl rfl)
theorem dX4_over_6 : decode cX4_over 6 = .ok (.istore 4, 2) := dk_54 4 (dk_at dksX4_over_0 6 rfl rfl)
theorem dX4_over_8 : decode cX4_over 8 = .ok (.iload 4, 2) := dk_21 4 (dk_at dksX4_over_0 8 rfl rfl)
theorem dX4_over_10 : decode cX4_over 10 = .ok (.aload_n 0, 1) := dk_42 (dk_at dksX4_over_0 10 rfl rfl)
theorem dX4_over_11 : decode cX4_over 11 = .ok (.getfield 28, 3) := dk_180 0 28 (dk_at dksX4_over_0 11 rfl rfl)
theorem dX4_over_14 : decode cX4_over 14 = .ok (.if_icmp .ge 70, 3) := dk_162 0 70 (dk_at dksX4_over_0 14 rfl rfl)
theorem dX4_over_17 : decode cX4_over 17 = .ok (.iconst 0, 1) := dk_3 (dk_at dksX4_over_0 17 rfl rfl)
theorem dX4_over_18 : decode cX4_over 18 = .ok (.istore 5, 2) := dk_54 5 (dk_at dksX4_over_0 18 rfl rfl)
theorem dX4_over_20 : decode cX4_over 20 = .ok (.iload 5, 2) := dk_21 5 (dk_at dksX4_over_0 20 rfl rfl)
theorem dX4_over_22 : decode cX4_over 22 = .ok (.iconst 4, 1) := dk_7 (dk_at dksX4_over_0 22 rfl rfl)
theorem dX4_over_23 : decode cX4_over 23 = .ok (.if_icmp .ge 55, 3) := dk_162 0 55 (dk_at dksX4_over_1 0 rfl rfl)
theorem dX4_over_26 : decode cX4_over 26 = .ok (.aload_n 0, 1) := dk_42 (dk_at dksX4_over_1 3 rfl rfl)
theorem dX4_over_27 : decode cX4_over 27 = .ok (.getfield 3, 3) := dk_180 0 3 (dk_at dksX4_over_1 4 rfl rfl)
theorem dX4_over_30 : decode cX4_over 30 = .ok (.aload_n 0, 1) := dk_42 (dk_at dksX4_over_1 7 rfl rfl)
theorem dX4_over_31 : decode cX4_over 31 = .ok (.getfield 19, 3) := dk_180 0 19 (dk_at dksX4_over_1 8 rfl rfl)
theorem dX4_over_34 : decode cX4_over 34 = .ok (.iload 4, 2) := dk_21 4 (dk_at dksX4_over_1 11 rfl rfl)
theorem dX4_over_36 : decode cX4_over 36 = .ok (.iaload, 1) := dk_46 (dk_at dksX4_over_1 13 rfl rfl)
theorem dX4_over_37 : decode cX4_over 37 = .ok (.iload 5, 2) := dk_21 5 (dk_at dksX4_over_1 14 rfl rfl)
theorem dX4_over_39 : decode cX4_over 39 = .ok (.invokevirtual 36, 3) := dk_182 0 36 (dk_at dksX4_over_1 16 rfl rfl)
theorem dX4_over_42 : decode cX4_over 42 = .ok (.istore 6, 2) := dk_54 6 (dk_at dksX4_over_1 19 rfl rfl)
theorem dX4_over_44 : decode cX4_over 44 = .ok (.iload 6, 2) := dk_21 6 (dk_at dksX4_over_1 21 rfl rfl)
theorem dX4_over_46 : decode cX4_over 46 = .ok (.iconst (-1), 1) := dk_2 (dk_at dksX4_over_1 23 rfl rfl)
theorem dX4_over_47 : decode cX4_over 47 = .ok (.if_icmp .eq 25, 3) := dk_159 0 25 (dk_at dksX4_over_2 0 rfl rfl)
theorem dX4_over_50 : decode cX4_over 50 = .ok (.lload_n 2, 1) := dk_32 (dk_at dksX4_over_2 3 rfl rfl)
theorem dX4_over_51 : decode cX4_over 51 = .ok (.iload 6, 2) := dk_21 6 (dk_at dksX4_over_2 4 rfl rfl)
theorem dX4_over_53 : decode cX4_over 53 = .ok (.invokestatic 40, 3) := dk_184 0 40 (dk_at dksX4_over_2 6 rfl rfl)
theorem dX4_over_56 : decode cX4_over 56 = .ok (.ifCond .ne 16, 3) := dk_154 0 16 (dk_at dksX4_over_2 9 rfl rfl)
theorem dX4_over_59 : decode cX4_over 59 = .ok (.aload_n 0, 1) := dk_42 (dk_at dksX4_over_2 12 rfl rfl)
theorem dX4_over_60 : decode cX4_over 60 = .ok (.aload_n 0, 1) := dk_42 (dk_at dksX4_over_2 13 rfl rfl)
theorem dX4_over_61 : decode cX4_over 61 = .ok (.getfield 19, 3) := dk_180 0 19 (dk_at dksX4_over_2 14 rfl rfl)
theorem dX4_over_64 : decode cX4_over 64 = .ok (.iload 4, 2) := dk_21 4 (dk_at dksX4_over_2 17 rfl rfl)
theorem dX4_over_66 : decode cX4_over 66 = .ok (.iaload, 1) := dk_46 (dk_at dksX4_over_2 19 rfl rfl)
theorem dX4_over_67 : decode cX4_over 67 = .ok (.iload 6, 2) := dk_21 6 (dk_at dksX4_over_2 20 rfl rfl)
theorem dX4_over_69 : decode cX4_over 69 = .ok (.invokevirtual 44, 3) := dk_182 0 44 (dk_at dksX4_over_3 0 rfl rfl)
theorem dX4_over_72 : decode cX4_over 72 = .ok (.iinc 5 1, 3) := dk_132 5 1 (dk_at dksX4_over_3 3 rfl rfl)
theorem dX4_over_75 : decode cX4_over 75 = .ok (.goto (-55), 3) := dk_167 255 201 (dk_at dksX4_over_3 6 rfl rfl)
theorem dX4_over_78 : decode cX4_over 78 = .ok (.iinc 4 1, 3) := dk_132 4 1 (dk_at dksX4_over_3 9 rfl rfl)
theorem dX4_over_81 : decode cX4_over 81 = .ok (.goto (-73), 3) := dk_167 255 183 (dk_at dksX4_over_3 12 rfl rfl)
theorem dX4_over_84 : decode cX4_over 84 = .ok (.aload_n 0, 1) := dk_42 (dk_at dksX4_over_3 15 rfl rfl)
theorem dX4_over_85 : decode cX4_over 85 = .ok (.areturn, 1) := dk_176 (dk_at dksX4_over_3 16 rfl rfl)
abbrev cX4_begins : ByteArray := prog_9_method_2_code
def yX4_begins : MethodName := ⟨RX4, "begins", "(I)V"⟩
def dkwX4_begins_1 : List UInt8 := [181, 0, 28, 177]
abbrev dktX4_begins_1 : List UInt8 := dkwX4_begins_1 ++ []
def dkwX4_begins_0 : List UInt8 := [42, 180, 0, 15, 2, 184, 0, 22, 42, 180, 0, 15, 27, 3, 79, 42, 180, 0, 19, 3, 27, 79, 42, 4]
abbrev dktX4_begins_0 : List UInt8 := dkwX4_begins_0 ++ dktX4_begins_1
theorem dksX4_begins_0 : cX4_begins.data.toList.drop 0 = dktX4_begins_0 := by decide +kernel
theorem dksX4_begins_1 : cX4_begins.data.toList.drop 24 = dktX4_begins_1 := dk_seg dksX4_begins_0 24 rfl rfl
theorem dX4_begins_0 : decode cX4_begins 0 = .ok (.aload_n 0, 1) := dk_42 (dk_at dksX4_begins_0 0 rfl rfl)
theorem dX4_begins_1 : decode cX4_begins 1 = .ok (.getfield 15, 3) := dk_180 0 15 (dk_at dksX4_begins_0 1 rfl rfl)
theorem dX4_begins_4 : decode cX4_begins 4 = .ok (.iconst (-1), 1) := dk_2 (dk_at dksX4_begins_0 4 rfl rfl)
theorem dX4_begins_5 : decode cX4_begins 5 = .ok (.invokestatic 22, 3) := dk_184 0 22 (dk_at dksX4_begins_0 5 rfl rfl)
theorem dX4_begins_8 : decode cX4_begins 8 = .ok (.aload_n 0, 1) := dk_42 (dk_at dksX4_begins_0 8 rfl rfl)
theorem dX4_begins_9 : decode cX4_begins 9 = .ok (.getfield 15, 3) := dk_180 0 15 (dk_at dksX4_begins_0 9 rfl rfl)
theorem dX4_begins_12 : decode cX4_begins 12 = .ok (.iload_n 1, 1) := dk_27 (dk_at dksX4_begins_0 12 rfl rfl)
theorem dX4_begins_13 : decode cX4_begins 13 = .ok (.iconst 0, 1) := dk_3 (dk_at dksX4_begins_0 13 rfl rfl)
theorem dX4_begins_14 : decode cX4_begins 14 = .ok (.iastore, 1) := dk_79 (dk_at dksX4_begins_0 14 rfl rfl)
theorem dX4_begins_15 : decode cX4_begins 15 = .ok (.aload_n 0, 1) := dk_42 (dk_at dksX4_begins_0 15 rfl rfl)
theorem dX4_begins_16 : decode cX4_begins 16 = .ok (.getfield 19, 3) := dk_180 0 19 (dk_at dksX4_begins_0 16 rfl rfl)
theorem dX4_begins_19 : decode cX4_begins 19 = .ok (.iconst 0, 1) := dk_3 (dk_at dksX4_begins_0 19 rfl rfl)
theorem dX4_begins_20 : decode cX4_begins 20 = .ok (.iload_n 1, 1) := dk_27 (dk_at dksX4_begins_0 20 rfl rfl)
theorem dX4_begins_21 : decode cX4_begins 21 = .ok (.iastore, 1) := dk_79 (dk_at dksX4_begins_0 21 rfl rfl)
theorem dX4_begins_22 : decode cX4_begins 22 = .ok (.aload_n 0, 1) := dk_42 (dk_at dksX4_begins_0 22 rfl rfl)
theorem dX4_begins_23 : decode cX4_begins 23 = .ok (.iconst 1, 1) := dk_4 (dk_at dksX4_begins_0 23 rfl rfl)
theorem dX4_begins_24 : decode cX4_begins 24 = .ok (.putfield 28, 3) := dk_181 0 28 (dk_at dksX4_begins_1 0 rfl rfl)
theorem dX4_begins_27 : decode cX4_begins 27 = .ok (.return_, 1) := dk_177 (dk_at dksX4_begins_1 3 rfl rfl)
abbrev cX4_comes : ByteArray := prog_9_method_3_code
def yX4_comes : MethodName := ⟨RX4, "comes", "(II)V"⟩
def dkwX4_comes_2 : List UInt8 := [96, 181, 0, 28, 177]
abbrev dktX4_comes_2 : List UInt8 := dkwX4_comes_2 ++ []
def dkwX4_comes_1 : List UInt8 := [180, 0, 15, 27, 46, 4, 96, 79, 42, 180, 0, 19, 42, 180, 0, 28, 28, 79, 42, 89, 180, 0, 28, 4]
abbrev dktX4_comes_1 : List UInt8 := dkwX4_comes_1 ++ dktX4_comes_2
def dkwX4_comes_0 : List UInt8 := [28, 2, 159, 0, 13, 42, 180, 0, 15, 28, 46, 2, 159, 0, 4, 177, 42, 180, 0, 15, 28, 42]
abbrev dktX4_comes_0 : List UInt8 := dkwX4_comes_0 ++ dktX4_comes_1
theorem dksX4_comes_0 : cX4_comes.data.toList.drop 0 = dktX4_comes_0 := by decide +kernel
theorem dksX4_comes_1 : cX4_comes.data.toList.drop 22 = dktX4_comes_1 := dk_seg dksX4_comes_0 22 rfl rfl
theorem dksX4_comes_2 : cX4_comes.data.toList.drop 46 = dktX4_comes_2 := dk_seg dksX4_comes_1 24 rfl rfl
theorem dX4_comes_0 : decode cX4_comes 0 = .ok (.iload_n 2, 1) := dk_28 (dk_at dksX4_comes_0 0 rfl rfl)
theorem dX4_comes_1 : decode cX4_comes 1 = .ok (.iconst (-1), 1) := dk_2 (dk_at dksX4_comes_0 1 rfl rfl)
theorem dX4_comes_2 : decode cX4_comes 2 = .ok (.if_icmp .eq 13, 3) := dk_159 0 13 (dk_at dksX4_comes_0 2 rfl rfl)
theorem dX4_comes_5 : decode cX4_comes 5 = .ok (.aload_n 0, 1) := dk_42 (dk_at dksX4_comes_0 5 rfl rfl)
theorem dX4_comes_6 : decode cX4_comes 6 = .ok (.getfield 15, 3) := dk_180 0 15 (dk_at dksX4_comes_0 6 rfl rfl)
theorem dX4_comes_9 : decode cX4_comes 9 = .ok (.iload_n 2, 1) := dk_28 (dk_at dksX4_comes_0 9 rfl rfl)
theorem dX4_comes_10 : decode cX4_comes 10 = .ok (.iaload, 1) := dk_46 (dk_at dksX4_comes_0 10 rfl rfl)
theorem dX4_comes_11 : decode cX4_comes 11 = .ok (.iconst (-1), 1) := dk_2 (dk_at dksX4_comes_0 11 rfl rfl)
theorem dX4_comes_12 : decode cX4_comes 12 = .ok (.if_icmp .eq 4, 3) := dk_159 0 4 (dk_at dksX4_comes_0 12 rfl rfl)
theorem dX4_comes_15 : decode cX4_comes 15 = .ok (.return_, 1) := dk_177 (dk_at dksX4_comes_0 15 rfl rfl)
theorem dX4_comes_16 : decode cX4_comes 16 = .ok (.aload_n 0, 1) := dk_42 (dk_at dksX4_comes_0 16 rfl rfl)
theorem dX4_comes_17 : decode cX4_comes 17 = .ok (.getfield 15, 3) := dk_180 0 15 (dk_at dksX4_comes_0 17 rfl rfl)
theorem dX4_comes_20 : decode cX4_comes 20 = .ok (.iload_n 2, 1) := dk_28 (dk_at dksX4_comes_0 20 rfl rfl)
theorem dX4_comes_21 : decode cX4_comes 21 = .ok (.aload_n 0, 1) := dk_42 (dk_at dksX4_comes_0 21 rfl rfl)
theorem dX4_comes_22 : decode cX4_comes 22 = .ok (.getfield 15, 3) := dk_180 0 15 (dk_at dksX4_comes_1 0 rfl rfl)
theorem dX4_comes_25 : decode cX4_comes 25 = .ok (.iload_n 1, 1) := dk_27 (dk_at dksX4_comes_1 3 rfl rfl)
theorem dX4_comes_26 : decode cX4_comes 26 = .ok (.iaload, 1) := dk_46 (dk_at dksX4_comes_1 4 rfl rfl)
theorem dX4_comes_27 : decode cX4_comes 27 = .ok (.iconst 1, 1) := dk_4 (dk_at dksX4_comes_1 5 rfl rfl)
theorem dX4_comes_28 : decode cX4_comes 28 = .ok (.iadd, 1) := dk_96 (dk_at dksX4_comes_1 6 rfl rfl)
theorem dX4_comes_29 : decode cX4_comes 29 = .ok (.iastore, 1) := dk_79 (dk_at dksX4_comes_1 7 rfl rfl)
theorem dX4_comes_30 : decode cX4_comes 30 = .ok (.aload_n 0, 1) := dk_42 (dk_at dksX4_comes_1 8 rfl rfl)
theorem dX4_comes_31 : decode cX4_comes 31 = .ok (.getfield 19, 3) := dk_180 0 19 (dk_at dksX4_comes_1 9 rfl rfl)
theorem dX4_comes_34 : decode cX4_comes 34 = .ok (.aload_n 0, 1) := dk_42 (dk_at dksX4_comes_1 12 rfl rfl)
theorem dX4_comes_35 : decode cX4_comes 35 = .ok (.getfield 28, 3) := dk_180 0 28 (dk_at dksX4_comes_1 13 rfl rfl)
theorem dX4_comes_38 : decode cX4_comes 38 = .ok (.iload_n 2, 1) := dk_28 (dk_at dksX4_comes_1 16 rfl rfl)
theorem dX4_comes_39 : decode cX4_comes 39 = .ok (.iastore, 1) := dk_79 (dk_at dksX4_comes_1 17 rfl rfl)
theorem dX4_comes_40 : decode cX4_comes 40 = .ok (.aload_n 0, 1) := dk_42 (dk_at dksX4_comes_1 18 rfl rfl)
theorem dX4_comes_41 : decode cX4_comes 41 = .ok (.dup, 1) := dk_89 (dk_at dksX4_comes_1 19 rfl rfl)
theorem dX4_comes_42 : decode cX4_comes 42 = .ok (.getfield 28, 3) := dk_180 0 28 (dk_at dksX4_comes_1 20 rfl rfl)
theorem dX4_comes_45 : decode cX4_comes 45 = .ok (.iconst 1, 1) := dk_4 (dk_at dksX4_comes_1 23 rfl rfl)
theorem dX4_comes_46 : decode cX4_comes 46 = .ok (.iadd, 1) := dk_96 (dk_at dksX4_comes_2 0 rfl rfl)
theorem dX4_comes_47 : decode cX4_comes 47 = .ok (.putfield 28, 3) := dk_181 0 28 (dk_at dksX4_comes_2 1 rfl rfl)
theorem dX4_comes_50 : decode cX4_comes 50 = .ok (.return_, 1) := dk_177 (dk_at dksX4_comes_2 4 rfl rfl)
abbrev cX4_by : ByteArray := prog_9_method_7_code
def yX4_by : MethodName := ⟨RX4, "by", "(II)LWidowRoads$Way;"⟩
def dkwX4_by_0 : List UInt8 := [42, 27, 28, 2, 2, 182, 0, 62, 176]
abbrev dktX4_by_0 : List UInt8 := dkwX4_by_0 ++ []
theorem dksX4_by_0 : cX4_by.data.toList.drop 0 = dktX4_by_0 := by decide +kernel
theorem dX4_by_0 : decode cX4_by 0 = .ok (.aload_n 0, 1) := dk_42 (dk_at dksX4_by_0 0 rfl rfl)
theorem dX4_by_1 : decode cX4_by 1 = .ok (.iload_n 1, 1) := dk_27 (dk_at dksX4_by_0 1 rfl rfl)
theorem dX4_by_2 : decode cX4_by 2 = .ok (.iload_n 2, 1) := dk_28 (dk_at dksX4_by_0 2 rfl rfl)
theorem dX4_by_3 : decode cX4_by 3 = .ok (.iconst (-1), 1) := dk_2 (dk_at dksX4_by_0 3 rfl rfl)
theorem dX4_by_4 : decode cX4_by 4 = .ok (.iconst (-1), 1) := dk_2 (dk_at dksX4_by_0 4 rfl rfl)
theorem dX4_by_5 : decode cX4_by 5 = .ok (.invokevirtual 62, 3) := dk_182 0 62 (dk_at dksX4_by_0 5 rfl rfl)
theorem dX4_by_8 : decode cX4_by 8 = .ok (.areturn, 1) := dk_176 (dk_at dksX4_by_0 8 rfl rfl)
abbrev cX4_by_2 : ByteArray := prog_9_method_5_code
def yX4_by_2 : MethodName := ⟨RX4, "by", "(IIII)LWidowRoads$Way;"⟩
def dkwX4_by_2_4 : List UInt8 := [182, 0, 44, 132, 6, 1, 167, 255, 178, 132, 5, 1, 167, 255, 160, 42, 176]
abbrev dktX4_by_2_4 : List UInt8 := dkwX4_by_2_4 ++ []
def dkwX4_by_2_3 : List UInt8 := [180, 0, 19, 21, 5, 46, 42, 180, 0, 3, 42, 180, 0, 19, 21, 5, 46, 21, 6, 182, 0, 36]
abbrev dktX4_by_2_3 : List UInt8 := dkwX4_by_2_3 ++ dktX4_by_2_4
def dkwX4_by_2_2 : List UInt8 := [153, 0, 49, 42, 42, 180, 0, 19, 21, 5, 46, 21, 6, 29, 21, 4, 182, 0, 58, 154, 0, 30, 42, 42]
abbrev dktX4_by_2_2 : List UInt8 := dkwX4_by_2_2 ++ dktX4_by_2_3
def dkwX4_by_2_1 : List UInt8 := [162, 0, 78, 42, 180, 0, 3, 180, 0, 48, 42, 180, 0, 19, 21, 5, 46, 21, 6, 28, 182, 0, 52]
abbrev dktX4_by_2_1 : List UInt8 := dkwX4_by_2_1 ++ dktX4_by_2_2
def dkwX4_by_2_0 : List UInt8 := [42, 27, 182, 0, 32, 3, 54, 5, 21, 5, 42, 180, 0, 28, 162, 0, 93, 3, 54, 6, 21, 6, 7]
abbrev dktX4_by_2_0 : List UInt8 := dkwX4_by_2_0 ++ dktX4_by_2_1
theorem dksX4_by_2_0 : cX4_by_2.data.toList.drop 0 = dktX4_by_2_0 := by decide +kernel
theorem dksX4_by_2_1 : cX4_by_2.data.toList.drop 23 = dktX4_by_2_1 := dk_seg dksX4_by_2_0 23 rfl rfl
theorem dksX4_by_2_2 : cX4_by_2.data.toList.drop 46 = dktX4_by_2_2 := dk_seg dksX4_by_2_1 23 rfl rfl
theorem dksX4_by_2_3 : cX4_by_2.data.toList.drop 70 = dktX4_by_2_3 := dk_seg dksX4_by_2_2 24 rfl rfl
theorem dksX4_by_2_4 : cX4_by_2.data.toList.drop 92 = dktX4_by_2_4 := dk_seg dksX4_by_2_3 22 rfl rfl
theorem dX4_by_2_0 : decode cX4_by_2 0 = .ok (.aload_n 0, 1) := dk_42 (dk_at dksX4_by_2_0 0 rfl rfl)
theorem dX4_by_2_1 : decode cX4_by_2 1 = .ok (.iload_n 1, 1) := dk_27 (dk_at dksX4_by_2_0 1 rfl rfl)
theorem dX4_by_2_2 : decode cX4_by_2 2 = .ok (.invokevirtual 32, 3) := dk_182 0 32 (dk_at dksX4_by_2_0 2 rfl rfl)
theorem dX4_by_2_5 : decode cX4_by_2 5 = .ok (.iconst 0, 1) := dk_3 (dk_at dksX4_by_2_0 5 rfl rfl)
theorem dX4_by_2_6 : decode cX4_by_2 6 = .ok (.istore 5, 2) := dk_54 5 (dk_at dksX4_by_2_0 6 rfl rfl)
theorem dX4_by_2_8 : decode cX4_by_2 8 = .ok (.iload 5, 2) := dk_21 5 (dk_at dksX4_by_2_0 8 rfl rfl)
theorem dX4_by_2_10 : decode cX4_by_2 10 = .ok (.aload_n 0, 1) := dk_42 (dk_at dksX4_by_2_0 10 rfl rfl)
theorem dX4_by_2_11 : decode cX4_by_2 11 = .ok (.getfield 28, 3) := dk_180 0 28 (dk_at dksX4_by_2_0 11 rfl rfl)
theorem dX4_by_2_14 : decode cX4_by_2 14 = .ok (.if_icmp .ge 93, 3) := dk_162 0 93 (dk_at dksX4_by_2_0 14 rfl rfl)
theorem dX4_by_2_17 : decode cX4_by_2 17 = .ok (.iconst 0, 1) := dk_3 (dk_at dksX4_by_2_0 17 rfl rfl)
theorem dX4_by_2_18 : decode cX4_by_2 18 = .ok (.istore 6, 2) := dk_54 6 (dk_at dksX4_by_2_0 18 rfl rfl)
theorem dX4_by_2_20 : decode cX4_by_2 20 = .ok (.iload 6, 2) := dk_21 6 (dk_at dksX4_by_2_0 20 rfl rfl)
theorem dX4_by_2_22 : decode cX4_by_2 22 = .ok (.iconst 4, 1) := dk_7 (dk_at dksX4_by_2_0 22 rfl rfl)
theorem dX4_by_2_23 : decode cX4_by_2 23 = .ok (.if_icmp .ge 78, 3) := dk_162 0 78 (dk_at dksX4_by_2_1 0 rfl rfl)
theorem dX4_by_2_26 : decode cX4_by_2 26 = .ok (.aload_n 0, 1) := dk_42 (dk_at dksX4_by_2_1 3 rfl rfl)
theorem dX4_by_2_27 : decode cX4_by_2 27 = .ok (.getfield 3, 3) := dk_180 0 3 (dk_at dksX4_by_2_1 4 rfl rfl)
theorem dX4_by_2_30 : decode cX4_by_2 30 = .ok (.getfield 48, 3) := dk_180 0 48 (dk_at dksX4_by_2_1 7 rfl rfl)
theorem dX4_by_2_33 : decode cX4_by_2 33 = .ok (.aload_n 0, 1) := dk_42 (dk_at dksX4_by_2_1 10 rfl rfl)
theorem dX4_by_2_34 : decode cX4_by_2 34 = .ok (.getfield 19, 3) := dk_180 0 19 (dk_at dksX4_by_2_1 11 rfl rfl)
theorem dX4_by_2_37 : decode cX4_by_2 37 = .ok (.iload 5, 2) := dk_21 5 (dk_at dksX4_by_2_1 14 rfl rfl)
theorem dX4_by_2_39 : decode cX4_by_2 39 = .ok (.iaload, 1) := dk_46 (dk_at dksX4_by_2_1 16 rfl rfl)
theorem dX4_by_2_40 : decode cX4_by_2 40 = .ok (.iload 6, 2) := dk_21 6 (dk_at dksX4_by_2_1 17 rfl rfl)
theorem dX4_by_2_42 : decode cX4_by_2 42 = .ok (.iload_n 2, 1) := dk_28 (dk_at dksX4_by_2_1 19 rfl rfl)
theorem dX4_by_2_43 : decode cX4_by_2 43 = .ok (.invokevirtual 52, 3) := dk_182 0 52 (dk_at dksX4_by_2_1 20 rfl rfl)
theorem dX4_by_2_46 : decode cX4_by_2 46 = .ok (.ifCond .eq 49, 3) := dk_153 0 49 (dk_at dksX4_by_2_2 0 rfl rfl)
theorem dX4_by_2_49 : decode cX4_by_2 49 = .ok (.aload_n 0, 1) := dk_42 (dk_at dksX4_by_2_2 3 rfl rfl)
theorem dX4_by_2_50 : decode cX4_by_2 50 = .ok (.aload_n 0, 1) := dk_42 (dk_at dksX4_by_2_2 4 rfl rfl)
theorem dX4_by_2_51 : decode cX4_by_2 51 = .ok (.getfield 19, 3) := dk_180 0 19 (dk_at dksX4_by_2_2 5 rfl rfl)
theorem dX4_by_2_54 : decode cX4_by_2 54 = .ok (.iload 5, 2) := dk_21 5 (dk_at dksX4_by_2_2 8 rfl rfl)
theorem dX4_by_2_56 : decode cX4_by_2 56 = .ok (.iaload, 1) := dk_46 (dk_at dksX4_by_2_2 10 rfl rfl)
theorem dX4_by_2_57 : decode cX4_by_2 57 = .ok (.iload 6, 2) := dk_21 6 (dk_at dksX4_by_2_2 11 rfl rfl)
theorem dX4_by_2_59 : decode cX4_by_2 59 = .ok (.iload_n 3, 1) := dk_29 (dk_at dksX4_by_2_2 13 rfl rfl)
theorem dX4_by_2_60 : decode cX4_by_2 60 = .ok (.iload 4, 2) := dk_21 4 (dk_at dksX4_by_2_2 14 rfl rfl)
theorem dX4_by_2_62 : decode cX4_by_2 62 = .ok (.invokevirtual 58, 3) := dk_182 0 58 (dk_at dksX4_by_2_2 16 rfl rfl)
theorem dX4_by_2_65 : decode cX4_by_2 65 = .ok (.ifCond .ne 30, 3) := dk_154 0 30 (dk_at dksX4_by_2_2 19 rfl rfl)
theorem dX4_by_2_68 : decode cX4_by_2 68 = .ok (.aload_n 0, 1) := dk_42 (dk_at dksX4_by_2_2 22 rfl rfl)
theorem dX4_by_2_69 : decode cX4_by_2 69 = .ok (.aload_n 0, 1) := dk_42 (dk_at dksX4_by_2_2 23 rfl rfl)
theorem dX4_by_2_70 : decode cX4_by_2 70 = .ok (.getfield 19, 3) := dk_180 0 19 (dk_at dksX4_by_2_3 0 rfl rfl)
theorem dX4_by_2_73 : decode cX4_by_2 73 = .ok (.iload 5, 2) := dk_21 5 (dk_at dksX4_by_2_3 3 rfl rfl)
theorem dX4_by_2_75 : decode cX4_by_2 75 = .ok (.iaload, 1) := dk_46 (dk_at dksX4_by_2_3 5 rfl rfl)
theorem dX4_by_2_76 : decode cX4_by_2 76 = .ok (.aload_n 0, 1) := dk_42 (dk_at dksX4_by_2_3 6 rfl rfl)
theorem dX4_by_2_77 : decode cX4_by_2 77 = .ok (.getfield 3, 3) := dk_180 0 3 (dk_at dksX4_by_2_3 7 rfl rfl)
theorem dX4_by_2_80 : decode cX4_by_2 80 = .ok (.aload_n 0, 1) := dk_42 (dk_at dksX4_by_2_3 10 rfl rfl)
theorem dX4_by_2_81 : decode cX4_by_2 81 = .ok (.getfield 19, 3) := dk_180 0 19 (dk_at dksX4_by_2_3 11 rfl rfl)
theorem dX4_by_2_84 : decode cX4_by_2 84 = .ok (.iload 5, 2) := dk_21 5 (dk_at dksX4_by_2_3 14 rfl rfl)
theorem dX4_by_2_86 : decode cX4_by_2 86 = .ok (.iaload, 1) := dk_46 (dk_at dksX4_by_2_3 16 rfl rfl)
theorem dX4_by_2_87 : decode cX4_by_2 87 = .ok (.iload 6, 2) := dk_21 6 (dk_at dksX4_by_2_3 17 rfl rfl)
theorem dX4_by_2_89 : decode cX4_by_2 89 = .ok (.invokevirtual 36, 3) := dk_182 0 36 (dk_at dksX4_by_2_3 19 rfl rfl)
theorem dX4_by_2_92 : decode cX4_by_2 92 = .ok (.invokevirtual 44, 3) := dk_182 0 44 (dk_at dksX4_by_2_4 0 rfl rfl)
theorem dX4_by_2_95 : decode cX4_by_2 95 = .ok (.iinc 6 1, 3) := dk_132 6 1 (dk_at dksX4_by_2_4 3 rfl rfl)
theorem dX4_by_2_98 : decode cX4_by_2 98 = .ok (.goto (-78), 3) := dk_167 255 178 (dk_at dksX4_by_2_4 6 rfl rfl)
theorem dX4_by_2_101 : decode cX4_by_2 101 = .ok (.iinc 5 1, 3) := dk_132 5 1 (dk_at dksX4_by_2_4 9 rfl rfl)
theorem dX4_by_2_104 : decode cX4_by_2 104 = .ok (.goto (-96), 3) := dk_167 255 160 (dk_at dksX4_by_2_4 12 rfl rfl)
theorem dX4_by_2_107 : decode cX4_by_2 107 = .ok (.aload_n 0, 1) := dk_42 (dk_at dksX4_by_2_4 15 rfl rfl)
theorem dX4_by_2_108 : decode cX4_by_2 108 = .ok (.areturn, 1) := dk_176 (dk_at dksX4_by_2_4 16 rfl rfl)
abbrev cX4_isBut : ByteArray := prog_9_method_6_code
def yX4_isBut : MethodName := ⟨RX4, "isBut", "(IIII)Z"⟩
def dkwX4_isBut_1 : List UInt8 := [28, 5, 96, 7, 112, 21, 4, 160, 0, 7, 4, 167, 0, 4, 3, 172]
abbrev dktX4_isBut_1 : List UInt8 := dkwX4_isBut_1 ++ []
def dkwX4_isBut_0 : List UInt8 := [27, 29, 160, 0, 9, 28, 21, 4, 159, 0, 26, 42, 180, 0, 3, 27, 28, 182, 0, 36, 29, 160, 0, 17]
abbrev dktX4_isBut_0 : List UInt8 := dkwX4_isBut_0 ++ dktX4_isBut_1
theorem dksX4_isBut_0 : cX4_isBut.data.toList.drop 0 = dktX4_isBut_0 := by decide +kernel
theorem dksX4_isBut_1 : cX4_isBut.data.toList.drop 24 = dktX4_isBut_1 := dk_seg dksX4_isBut_0 24 rfl rfl
theorem dX4_isBut_0 : decode cX4_isBut 0 = .ok (.iload_n 1, 1) := dk_27 (dk_at dksX4_isBut_0 0 rfl rfl)
theorem dX4_isBut_1 : decode cX4_isBut 1 = .ok (.iload_n 3, 1) := dk_29 (dk_at dksX4_isBut_0 1 rfl rfl)
theorem dX4_isBut_2 : decode cX4_isBut 2 = .ok (.if_icmp .ne 9, 3) := dk_160 0 9 (dk_at dksX4_isBut_0 2 rfl rfl)
theorem dX4_isBut_5 : decode cX4_isBut 5 = .ok (.iload_n 2, 1) := dk_28 (dk_at dksX4_isBut_0 5 rfl rfl)
theorem dX4_isBut_6 : decode cX4_isBut 6 = .ok (.iload 4, 2) := dk_21 4 (dk_at dksX4_isBut_0 6 rfl rfl)
theorem dX4_isBut_8 : decode cX4_isBut 8 = .ok (.if_icmp .eq 26, 3) := dk_159 0 26 (dk_at dksX4_isBut_0 8 rfl rfl)
theorem dX4_isBut_11 : decode cX4_isBut 11 = .ok (.aload_n 0, 1) := dk_42 (dk_at dksX4_isBut_0 11 rfl rfl)
theorem dX4_isBut_12 : decode cX4_isBut 12 = .ok (.getfield 3, 3) := dk_180 0 3 (dk_at dksX4_isBut_0 12 rfl rfl)
theorem dX4_isBut_15 : decode cX4_isBut 15 = .ok (.iload_n 1, 1) := dk_27 (dk_at dksX4_isBut_0 15 rfl rfl)
theorem dX4_isBut_16 : decode cX4_isBut 16 = .ok (.iload_n 2, 1) := dk_28 (dk_at dksX4_isBut_0 16 rfl rfl)
theorem dX4_isBut_17 : decode cX4_isBut 17 = .ok (.invokevirtual 36, 3) := dk_182 0 36 (dk_at dksX4_isBut_0 17 rfl rfl)
theorem dX4_isBut_20 : decode cX4_isBut 20 = .ok (.iload_n 3, 1) := dk_29 (dk_at dksX4_isBut_0 20 rfl rfl)
theorem dX4_isBut_21 : decode cX4_isBut 21 = .ok (.if_icmp .ne 17, 3) := dk_160 0 17 (dk_at dksX4_isBut_0 21 rfl rfl)
theorem dX4_isBut_24 : decode cX4_isBut 24 = .ok (.iload_n 2, 1) := dk_28 (dk_at dksX4_isBut_1 0 rfl rfl)
theorem dX4_isBut_25 : decode cX4_isBut 25 = .ok (.iconst 2, 1) := dk_5 (dk_at dksX4_isBut_1 1 rfl rfl)
theorem dX4_isBut_26 : decode cX4_isBut 26 = .ok (.iadd, 1) := dk_96 (dk_at dksX4_isBut_1 2 rfl rfl)
theorem dX4_isBut_27 : decode cX4_isBut 27 = .ok (.iconst 4, 1) := dk_7 (dk_at dksX4_isBut_1 3 rfl rfl)
theorem dX4_isBut_28 : decode cX4_isBut 28 = .ok (.irem, 1) := dk_112 (dk_at dksX4_isBut_1 4 rfl rfl)
theorem dX4_isBut_29 : decode cX4_isBut 29 = .ok (.iload 4, 2) := dk_21 4 (dk_at dksX4_isBut_1 5 rfl rfl)
theorem dX4_isBut_31 : decode cX4_isBut 31 = .ok (.if_icmp .ne 7, 3) := dk_160 0 7 (dk_at dksX4_isBut_1 7 rfl rfl)
theorem dX4_isBut_34 : decode cX4_isBut 34 = .ok (.iconst 1, 1) := dk_4 (dk_at dksX4_isBut_1 10 rfl rfl)
theorem dX4_isBut_35 : decode cX4_isBut 35 = .ok (.goto 4, 3) := dk_167 0 4 (dk_at dksX4_isBut_1 11 rfl rfl)
theorem dX4_isBut_38 : decode cX4_isBut 38 = .ok (.iconst 0, 1) := dk_3 (dk_at dksX4_isBut_1 14 rfl rfl)
theorem dX4_isBut_39 : decode cX4_isBut 39 = .ok (.ireturn, 1) := dk_172 (dk_at dksX4_isBut_1 15 rfl rfl)
abbrev cX4_along : ByteArray := prog_9_method_8_code
def yX4_along : MethodName := ⟨RX4, "along", "(IJ)LWidowRoads$Way;"⟩
def dkwX4_along_3 : List UInt8 := [182, 0, 44, 132, 5, 1, 167, 255, 201, 132, 4, 1, 167, 255, 183, 42, 176]
abbrev dktX4_along_3 : List UInt8 := dkwX4_along_3 ++ []
def dkwX4_along_2 : List UInt8 := [159, 0, 25, 32, 21, 6, 184, 0, 40, 153, 0, 16, 42, 42, 180, 0, 19, 21, 4, 46, 21, 6]
abbrev dktX4_along_2 : List UInt8 := dkwX4_along_2 ++ dktX4_along_3
def dkwX4_along_1 : List UInt8 := [162, 0, 55, 42, 180, 0, 3, 42, 180, 0, 19, 21, 4, 46, 21, 5, 182, 0, 36, 54, 6, 21, 6, 2]
abbrev dktX4_along_1 : List UInt8 := dkwX4_along_1 ++ dktX4_along_2
def dkwX4_along_0 : List UInt8 := [42, 27, 182, 0, 32, 3, 54, 4, 21, 4, 42, 180, 0, 28, 162, 0, 70, 3, 54, 5, 21, 5, 7]
abbrev dktX4_along_0 : List UInt8 := dkwX4_along_0 ++ dktX4_along_1
theorem dksX4_along_0 : cX4_along.data.toList.drop 0 = dktX4_along_0 := by decide +kernel
theorem dksX4_along_1 : cX4_along.data.toList.drop 23 = dktX4_along_1 := dk_seg dksX4_along_0 23 rfl rfl
theorem dksX4_along_2 : cX4_along.data.toList.drop 47 = dktX4_along_2 := dk_seg dksX4_along_1 24 rfl rfl
theorem dksX4_along_3 : cX4_along.data.toList.drop 69 = dktX4_along_3 := dk_seg dksX4_along_2 22 rfl rfl
theorem dX4_along_0 : decode cX4_along 0 = .ok (.aload_n 0, 1) := dk_42 (dk_at dksX4_along_0 0 rfl rfl)
theorem dX4_along_1 : decode cX4_along 1 = .ok (.iload_n 1, 1) := dk_27 (dk_at dksX4_along_0 1 rfl rfl)
theorem dX4_along_2 : decode cX4_along 2 = .ok (.invokevirtual 32, 3) := dk_182 0 32 (dk_at dksX4_along_0 2 rfl rfl)
theorem dX4_along_5 : decode cX4_along 5 = .ok (.iconst 0, 1) := dk_3 (dk_at dksX4_along_0 5 rfl rfl)
theorem dX4_along_6 : decode cX4_along 6 = .ok (.istore 4, 2) := dk_54 4 (dk_at dksX4_along_0 6 rfl rfl)
theorem dX4_along_8 : decode cX4_along 8 = .ok (.iload 4, 2) := dk_21 4 (dk_at dksX4_along_0 8 rfl rfl)
theorem dX4_along_10 : decode cX4_along 10 = .ok (.aload_n 0, 1) := dk_42 (dk_at dksX4_along_0 10 rfl rfl)
theorem dX4_along_11 : decode cX4_along 11 = .ok (.getfield 28, 3) := dk_180 0 28 (dk_at dksX4_along_0 11 rfl rfl)
theorem dX4_along_14 : decode cX4_along 14 = .ok (.if_icmp .ge 70, 3) := dk_162 0 70 (dk_at dksX4_along_0 14 rfl rfl)
theorem dX4_along_17 : decode cX4_along 17 = .ok (.iconst 0, 1) := dk_3 (dk_at dksX4_along_0 17 rfl rfl)
theorem dX4_along_18 : decode cX4_along 18 = .ok (.istore 5, 2) := dk_54 5 (dk_at dksX4_along_0 18 rfl rfl)
theorem dX4_along_20 : decode cX4_along 20 = .ok (.iload 5, 2) := dk_21 5 (dk_at dksX4_along_0 20 rfl rfl)
theorem dX4_along_22 : decode cX4_along 22 = .ok (.iconst 4, 1) := dk_7 (dk_at dksX4_along_0 22 rfl rfl)
theorem dX4_along_23 : decode cX4_along 23 = .ok (.if_icmp .ge 55, 3) := dk_162 0 55 (dk_at dksX4_along_1 0 rfl rfl)
theorem dX4_along_26 : decode cX4_along 26 = .ok (.aload_n 0, 1) := dk_42 (dk_at dksX4_along_1 3 rfl rfl)
theorem dX4_along_27 : decode cX4_along 27 = .ok (.getfield 3, 3) := dk_180 0 3 (dk_at dksX4_along_1 4 rfl rfl)
theorem dX4_along_30 : decode cX4_along 30 = .ok (.aload_n 0, 1) := dk_42 (dk_at dksX4_along_1 7 rfl rfl)
theorem dX4_along_31 : decode cX4_along 31 = .ok (.getfield 19, 3) := dk_180 0 19 (dk_at dksX4_along_1 8 rfl rfl)
theorem dX4_along_34 : decode cX4_along 34 = .ok (.iload 4, 2) := dk_21 4 (dk_at dksX4_along_1 11 rfl rfl)
theorem dX4_along_36 : decode cX4_along 36 = .ok (.iaload, 1) := dk_46 (dk_at dksX4_along_1 13 rfl rfl)
theorem dX4_along_37 : decode cX4_along 37 = .ok (.iload 5, 2) := dk_21 5 (dk_at dksX4_along_1 14 rfl rfl)
theorem dX4_along_39 : decode cX4_along 39 = .ok (.invokevirtual 36, 3) := dk_182 0 36 (dk_at dksX4_along_1 16 rfl rfl)
theorem dX4_along_42 : decode cX4_along 42 = .ok (.istore 6, 2) := dk_54 6 (dk_at dksX4_along_1 19 rfl rfl)
theorem dX4_along_44 : decode cX4_along 44 = .ok (.iload 6, 2) := dk_21 6 (dk_at dksX4_along_1 21 rfl rfl)
theorem dX4_along_46 : decode cX4_along 46 = .ok (.iconst (-1), 1) := dk_2 (dk_at dksX4_along_1 23 rfl rfl)
theorem dX4_along_47 : decode cX4_along 47 = .ok (.if_icmp .eq 25, 3) := dk_159 0 25 (dk_at dksX4_along_2 0 rfl rfl)
theorem dX4_along_50 : decode cX4_along 50 = .ok (.lload_n 2, 1) := dk_32 (dk_at dksX4_along_2 3 rfl rfl)
theorem dX4_along_51 : decode cX4_along 51 = .ok (.iload 6, 2) := dk_21 6 (dk_at dksX4_along_2 4 rfl rfl)
theorem dX4_along_53 : decode cX4_along 53 = .ok (.invokestatic 40, 3) := dk_184 0 40 (dk_at dksX4_along_2 6 rfl rfl)
theorem dX4_along_56 : decode cX4_along 56 = .ok (.ifCond .eq 16, 3) := dk_153 0 16 (dk_at dksX4_along_2 9 rfl rfl)
theorem dX4_along_59 : decode cX4_along 59 = .ok (.aload_n 0, 1) := dk_42 (dk_at dksX4_along_2 12 rfl rfl)
theorem dX4_along_60 : decode cX4_along 60 = .ok (.aload_n 0, 1) := dk_42 (dk_at dksX4_along_2 13 rfl rfl)
theorem dX4_along_61 : decode cX4_along 61 = .ok (.getfield 19, 3) := dk_180 0 19 (dk_at dksX4_along_2 14 rfl rfl)
theorem dX4_along_64 : decode cX4_along 64 = .ok (.iload 4, 2) := dk_21 4 (dk_at dksX4_along_2 17 rfl rfl)
theorem dX4_along_66 : decode cX4_along 66 = .ok (.iaload, 1) := dk_46 (dk_at dksX4_along_2 19 rfl rfl)
theorem dX4_along_67 : decode cX4_along 67 = .ok (.iload 6, 2) := dk_21 6 (dk_at dksX4_along_2 20 rfl rfl)
theorem dX4_along_69 : decode cX4_along 69 = .ok (.invokevirtual 44, 3) := dk_182 0 44 (dk_at dksX4_along_3 0 rfl rfl)
theorem dX4_along_72 : decode cX4_along 72 = .ok (.iinc 5 1, 3) := dk_132 5 1 (dk_at dksX4_along_3 3 rfl rfl)
theorem dX4_along_75 : decode cX4_along 75 = .ok (.goto (-55), 3) := dk_167 255 201 (dk_at dksX4_along_3 6 rfl rfl)
theorem dX4_along_78 : decode cX4_along 78 = .ok (.iinc 4 1, 3) := dk_132 4 1 (dk_at dksX4_along_3 9 rfl rfl)
theorem dX4_along_81 : decode cX4_along 81 = .ok (.goto (-73), 3) := dk_167 255 183 (dk_at dksX4_along_3 12 rfl rfl)
theorem dX4_along_84 : decode cX4_along 84 = .ok (.aload_n 0, 1) := dk_42 (dk_at dksX4_along_3 15 rfl rfl)
theorem dX4_along_85 : decode cX4_along 85 = .ok (.areturn, 1) := dk_176 (dk_at dksX4_along_3 16 rfl rfl)
theorem q148 : (Jvm.Cond.initialized "WidowRoads$Way") ∈ lw_all := lw_g (lw_at lw_m1 8 rfl) rfl
theorem q571 : (Jvm.Cond.instantiable "WidowRoads$Way" (4 : Nat)) ∈ lw_all := lw_g (lw_at lw_m2 191 rfl) rfl
theorem q573 : (Jvm.Cond.instanceMethod ({ cls := "WidowRoads$Way", name := "<init>", desc := "(LWidowRoads;)V" } : Jvm.MethodName)) ∈ lw_all := lw_g (lw_at lw_m2 193 rfl) rfl
theorem q574 : (Jvm.Cond.code ({ cls := "WidowRoads$Way", name := "<init>", desc := "(LWidowRoads;)V" } : Jvm.MethodName) prog_9_method_1_code (2 : Nat) (Option.none : Option Jvm.ClassFile.FieldType)) ∈ lw_all := lw_g (lw_at lw_m2 194 rfl) rfl
theorem q575 : (Jvm.Cond.methodLink "WidowRoads$Way" (9 : Nat) ({ cls := "java/lang/Object", name := "<init>", desc := "()V" } : Jvm.MethodName)) ∈ lw_all := lw_g (lw_at lw_m2 195 rfl) rfl
theorem q576 : (Jvm.Cond.fieldLink "WidowRoads$Way" (15 : Nat) "WidowRoads$Way" "far" "[I") ∈ lw_all := lw_g (lw_at lw_m2 196 rfl) rfl
theorem q578 : (Jvm.Cond.fieldLink "WidowRoads$Way" (19 : Nat) "WidowRoads$Way" "queue" "[I") ∈ lw_all := lw_g (lw_at lw_m2 198 rfl) rfl
theorem q580 : (Jvm.Cond.fieldLink "WidowRoads$Way" (28 : Nat) "WidowRoads$Way" "many" "I") ∈ lw_all := lw_g (lw_at lw_m2 200 rfl) rfl
theorem q582 : (Jvm.Cond.fieldLink "WidowRoads$Way" (3 : Nat) "WidowRoads$Way" "this$0" "LWidowRoads;") ∈ lw_all := lw_g (lw_at lw_m2 202 rfl) rfl
theorem q583 : (Jvm.Cond.laysFinal "WidowRoads$Way" "WidowRoads$Way" "far" "[I") ∈ lw_all := lw_g (lw_at lw_m2 203 rfl) rfl
theorem q584 : (Jvm.Cond.soleField "WidowRoads$Way" "far") ∈ lw_all := lw_g (lw_at lw_m2 204 rfl) rfl
theorem q585 : (Jvm.Cond.laysFinal "WidowRoads$Way" "WidowRoads$Way" "queue" "[I") ∈ lw_all := lw_g (lw_at lw_m2 205 rfl) rfl
theorem q586 : (Jvm.Cond.soleField "WidowRoads$Way" "queue") ∈ lw_all := lw_g (lw_at lw_m2 206 rfl) rfl
theorem q587 : (Jvm.Cond.lays "WidowRoads$Way" "WidowRoads$Way" "many" "I") ∈ lw_all := lw_g (lw_at lw_m2 207 rfl) rfl
theorem q588 : (Jvm.Cond.soleField "WidowRoads$Way" "many") ∈ lw_all := lw_g (lw_at lw_m2 208 rfl) rfl
theorem q589 : (Jvm.Cond.laysFinal "WidowRoads$Way" "WidowRoads$Way" "this$0" "LWidowRoads;") ∈ lw_all := lw_g (lw_at lw_m2 209 rfl) rfl
theorem q590 : (Jvm.Cond.soleField "WidowRoads$Way" "this$0") ∈ lw_all := lw_g (lw_at lw_m2 210 rfl) rfl
theorem q591 : (Jvm.Cond.superclass "WidowRoads$Way" "java/lang/Object") ∈ lw_all := lw_g (lw_at lw_m2 211 rfl) rfl
theorem q626 : (Jvm.Cond.fieldLinkNest "WidowRoads$Way" (48 : Nat) "WidowRoads" "walks" "LWidowRoads$Walks;" "WidowRoads") ∈ lw_tbl := lw_at lw_m3 6 rfl
theorem q892 : (Jvm.Cond.selects "WidowRoads$Way" ({ cls := "java/lang/Object", name := "equals", desc := "(Ljava/lang/Object;)Z" } : Jvm.MethodName) ({ cls := "java/lang/Object", name := "equals", desc := "(Ljava/lang/Object;)Z" } : Jvm.MethodName)) ∈ lw_all := lw_g (lw_at lw_m4 32 rfl) rfl
theorem q959 : (Jvm.Cond.selects "WidowRoads$Way" ({ cls := "java/lang/Object", name := "getClass", desc := "()Ljava/lang/Class;" } : Jvm.MethodName) ({ cls := "java/lang/Object", name := "getClass", desc := "()Ljava/lang/Class;" } : Jvm.MethodName)) ∈ lw_all := lw_g (lw_at lw_m4 99 rfl) rfl
theorem q1284 : (Jvm.Cond.instanceMethod ({ cls := "WidowRoads$Way", name := "over", desc := "(IJ)LWidowRoads$Way;" } : Jvm.MethodName)) ∈ lw_all := lw_g (lw_at lw_m5 184 rfl) rfl
theorem q1285 : (Jvm.Cond.selects "WidowRoads$Way" ({ cls := "WidowRoads$Way", name := "over", desc := "(IJ)LWidowRoads$Way;" } : Jvm.MethodName) ({ cls := "WidowRoads$Way", name := "over", desc := "(IJ)LWidowRoads$Way;" } : Jvm.MethodName)) ∈ lw_all := lw_g (lw_at lw_m5 185 rfl) rfl
theorem q1286 : (Jvm.Cond.code ({ cls := "WidowRoads$Way", name := "over", desc := "(IJ)LWidowRoads$Way;" } : Jvm.MethodName) prog_9_method_4_code (7 : Nat) (Option.some (Jvm.ClassFile.FieldType.object "WidowRoads$Way"))) ∈ lw_all := lw_g (lw_at lw_m5 186 rfl) rfl
theorem q1287 : (Jvm.Cond.methodLink "WidowRoads$Way" (32 : Nat) ({ cls := "WidowRoads$Way", name := "begins", desc := "(I)V" } : Jvm.MethodName)) ∈ lw_all := lw_g (lw_at lw_m5 187 rfl) rfl
theorem q1288 : (Jvm.Cond.privateMethod ({ cls := "WidowRoads$Way", name := "begins", desc := "(I)V" } : Jvm.MethodName)) ∈ lw_tbl := lw_at lw_m5 188 rfl
theorem q1289 : (Jvm.Cond.instanceMethod ({ cls := "WidowRoads$Way", name := "begins", desc := "(I)V" } : Jvm.MethodName)) ∈ lw_all := lw_g (lw_at lw_m5 189 rfl) rfl
theorem q1290 : (Jvm.Cond.code ({ cls := "WidowRoads$Way", name := "begins", desc := "(I)V" } : Jvm.MethodName) prog_9_method_2_code (2 : Nat) (Option.none : Option Jvm.ClassFile.FieldType)) ∈ lw_all := lw_g (lw_at lw_m5 190 rfl) rfl
theorem q1291 : (Jvm.Cond.methodLink "WidowRoads$Way" (22 : Nat) ({ cls := "java/util/Arrays", name := "fill", desc := "([II)V" } : Jvm.MethodName)) ∈ lw_all := lw_g (lw_at lw_m5 191 rfl) rfl
theorem q1292 : (Jvm.Cond.methodLinkNest "WidowRoads$Way" (36 : Nat) ({ cls := "WidowRoads", name := "beside", desc := "(II)I" } : Jvm.MethodName) "WidowRoads") ∈ lw_tbl := lw_at lw_m5 192 rfl
theorem q1293 : (Jvm.Cond.methodLinkNest "WidowRoads$Way" (40 : Nat) ({ cls := "WidowRoads", name := "isIn", desc := "(JI)Z" } : Jvm.MethodName) "WidowRoads") ∈ lw_tbl := lw_at lw_m5 193 rfl
theorem q1294 : (Jvm.Cond.methodLink "WidowRoads$Way" (44 : Nat) ({ cls := "WidowRoads$Way", name := "comes", desc := "(II)V" } : Jvm.MethodName)) ∈ lw_all := lw_g (lw_at lw_m5 194 rfl) rfl
theorem q1295 : (Jvm.Cond.privateMethod ({ cls := "WidowRoads$Way", name := "comes", desc := "(II)V" } : Jvm.MethodName)) ∈ lw_tbl := lw_at lw_m5 195 rfl
theorem q1296 : (Jvm.Cond.instanceMethod ({ cls := "WidowRoads$Way", name := "comes", desc := "(II)V" } : Jvm.MethodName)) ∈ lw_all := lw_g (lw_at lw_m5 196 rfl) rfl
theorem q1297 : (Jvm.Cond.code ({ cls := "WidowRoads$Way", name := "comes", desc := "(II)V" } : Jvm.MethodName) prog_9_method_3_code (3 : Nat) (Option.none : Option Jvm.ClassFile.FieldType)) ∈ lw_all := lw_g (lw_at lw_m5 197 rfl) rfl
theorem q1368 : (Jvm.Cond.instanceMethod ({ cls := "WidowRoads$Way", name := "by", desc := "(II)LWidowRoads$Way;" } : Jvm.MethodName)) ∈ lw_all := lw_g (lw_at lw_m6 28 rfl) rfl
theorem q1369 : (Jvm.Cond.selects "WidowRoads$Way" ({ cls := "WidowRoads$Way", name := "by", desc := "(II)LWidowRoads$Way;" } : Jvm.MethodName) ({ cls := "WidowRoads$Way", name := "by", desc := "(II)LWidowRoads$Way;" } : Jvm.MethodName)) ∈ lw_all := lw_g (lw_at lw_m6 29 rfl) rfl
theorem q1370 : (Jvm.Cond.code ({ cls := "WidowRoads$Way", name := "by", desc := "(II)LWidowRoads$Way;" } : Jvm.MethodName) prog_9_method_7_code (3 : Nat) (Option.some (Jvm.ClassFile.FieldType.object "WidowRoads$Way"))) ∈ lw_all := lw_g (lw_at lw_m6 30 rfl) rfl
theorem q1371 : (Jvm.Cond.methodLink "WidowRoads$Way" (62 : Nat) ({ cls := "WidowRoads$Way", name := "by", desc := "(IIII)LWidowRoads$Way;" } : Jvm.MethodName)) ∈ lw_all := lw_g (lw_at lw_m6 31 rfl) rfl
theorem q1372 : (Jvm.Cond.instanceMethod ({ cls := "WidowRoads$Way", name := "by", desc := "(IIII)LWidowRoads$Way;" } : Jvm.MethodName)) ∈ lw_all := lw_g (lw_at lw_m6 32 rfl) rfl
theorem q1373 : (Jvm.Cond.selects "WidowRoads$Way" ({ cls := "WidowRoads$Way", name := "by", desc := "(IIII)LWidowRoads$Way;" } : Jvm.MethodName) ({ cls := "WidowRoads$Way", name := "by", desc := "(IIII)LWidowRoads$Way;" } : Jvm.MethodName)) ∈ lw_all := lw_g (lw_at lw_m6 33 rfl) rfl
theorem q1374 : (Jvm.Cond.code ({ cls := "WidowRoads$Way", name := "by", desc := "(IIII)LWidowRoads$Way;" } : Jvm.MethodName) prog_9_method_5_code (7 : Nat) (Option.some (Jvm.ClassFile.FieldType.object "WidowRoads$Way"))) ∈ lw_all := lw_g (lw_at lw_m6 34 rfl) rfl
theorem q1375 : (Jvm.Cond.methodLink "WidowRoads$Way" (52 : Nat) ({ cls := "WidowRoads$Walks", name := "isPeg", desc := "(III)Z" } : Jvm.MethodName)) ∈ lw_all := lw_g (lw_at lw_m6 35 rfl) rfl
theorem q1376 : (Jvm.Cond.methodLink "WidowRoads$Way" (58 : Nat) ({ cls := "WidowRoads$Way", name := "isBut", desc := "(IIII)Z" } : Jvm.MethodName)) ∈ lw_all := lw_g (lw_at lw_m6 36 rfl) rfl
theorem q1377 : (Jvm.Cond.privateMethod ({ cls := "WidowRoads$Way", name := "isBut", desc := "(IIII)Z" } : Jvm.MethodName)) ∈ lw_tbl := lw_at lw_m6 37 rfl
theorem q1378 : (Jvm.Cond.instanceMethod ({ cls := "WidowRoads$Way", name := "isBut", desc := "(IIII)Z" } : Jvm.MethodName)) ∈ lw_all := lw_g (lw_at lw_m6 38 rfl) rfl
theorem q1379 : (Jvm.Cond.code ({ cls := "WidowRoads$Way", name := "isBut", desc := "(IIII)Z" } : Jvm.MethodName) prog_9_method_6_code (5 : Nat) (Option.some Jvm.ClassFile.FieldType.boolean)) ∈ lw_all := lw_g (lw_at lw_m6 39 rfl) rfl
theorem q1381 : (Jvm.Cond.instanceMethod ({ cls := "WidowRoads$Way", name := "along", desc := "(IJ)LWidowRoads$Way;" } : Jvm.MethodName)) ∈ lw_all := lw_g (lw_at lw_m6 41 rfl) rfl
theorem q1382 : (Jvm.Cond.selects "WidowRoads$Way" ({ cls := "WidowRoads$Way", name := "along", desc := "(IJ)LWidowRoads$Way;" } : Jvm.MethodName) ({ cls := "WidowRoads$Way", name := "along", desc := "(IJ)LWidowRoads$Way;" } : Jvm.MethodName)) ∈ lw_all := lw_g (lw_at lw_m6 42 rfl) rfl
theorem q1383 : (Jvm.Cond.code ({ cls := "WidowRoads$Way", name := "along", desc := "(IJ)LWidowRoads$Way;" } : Jvm.MethodName) prog_9_method_8_code (7 : Nat) (Option.some (Jvm.ClassFile.FieldType.object "WidowRoads$Way"))) ∈ lw_all := lw_g (lw_at lw_m6 43 rfl) rfl
theorem q2591 : (Jvm.Cond.castable "WidowRoads$Way" "java/lang/Object") ∈ lw_tbl := lw_at lw_m11 51 rfl
theorem in_X4 : ∀ w ∈ wsX40, w ∈ lw_all := lw_in wsX40 [583, 585, 587, 589] (by decide +kernel) (by decide +kernel)
/-! WidowRoads$Faced -/
set_option maxRecDepth 100000
def RX5 : String := "WidowRoads$Faced"
def TX5 : u_T := fun k => match k with
  | 0 => ("WidowRoads$Faced", "at", "[I", true)
  | 1 => ("WidowRoads$Faced", "bits", "I", false)
  | 2 => ("WidowRoads$Faced", "best", "I", false)
  | 3 => ("WidowRoads$Faced", "leaves", "I", false)
  | _ => ("WidowRoads$Faced", "this$0", "LWidowRoads;", true)
def tyX5 : Nat → FieldType := fun k => match k with
  | 0 => .array .int
  | 1 => .int
  | 2 => .int
  | 3 => .int
  | _ => .object "WidowRoads"
abbrev wsX50 : List Cond := u_ws RX5 TX5 5
theorem nmX5 : ∀ a, a < 5 → ∀ b, b < 5 → a ≠ b → (TX5 a).2.1 ≠ (TX5 b).2.1 := by decide +kernel
theorem tyX5_ok : ∀ k, k < 5 → parseFieldDescriptor (TX5 k).2.2.1 = some (tyX5 k) := by decide +kernel
abbrev cX5_init : ByteArray := prog_4_method_1_code
def yX5_init : MethodName := ⟨RX5, "<init>", "(LWidowRoads;)V"⟩
def dkwX5_init_0 : List UInt8 := [42, 43, 181, 0, 3, 42, 183, 0, 9, 42, 17, 0, 164, 188, 10, 181, 0, 15, 177]
abbrev dktX5_init_0 : List UInt8 := dkwX5_init_0 ++ []
theorem dksX5_init_0 : cX5_init.data.toList.drop 0 = dktX5_init_0 := by decide +kernel
theorem dX5_init_0 : decode cX5_init 0 = .ok (.aload_n 0, 1) := dk_42 (dk_at dksX5_init_0 0 rfl rfl)
theorem dX5_init_1 : decode cX5_init 1 = .ok (.aload_n 1, 1) := dk_43 (dk_at dksX5_init_0 1 rfl rfl)
theorem dX5_init_2 : decode cX5_init 2 = .ok (.putfield 3, 3) := dk_181 0 3 (dk_at dksX5_init_0 2 rfl rfl)
theorem dX5_init_5 : decode cX5_init 5 = .ok (.aload_n 0, 1) := dk_42 (dk_at dksX5_init_0 5 rfl rfl)
theorem dX5_init_6 : decode cX5_init 6 = .ok (.invokespecial 9, 3) := dk_183 0 9 (dk_at dksX5_init_0 6 rfl rfl)
theorem dX5_init_9 : decode cX5_init 9 = .ok (.aload_n 0, 1) := dk_42 (dk_at dksX5_init_0 9 rfl rfl)
theorem dX5_init_10 : decode cX5_init 10 = .ok (.sipush 164, 3) := dk_17 0 164 (dk_at dksX5_init_0 10 rfl rfl)
theorem dX5_init_13 : decode cX5_init 13 = .ok (.newarray .int, 2) := dk_188_10 (dk_at dksX5_init_0 13 rfl rfl)
theorem dX5_init_15 : decode cX5_init 15 = .ok (.putfield 15, 3) := dk_181 0 15 (dk_at dksX5_init_0 15 rfl rfl)
theorem dX5_init_18 : decode cX5_init 18 = .ok (.return_, 1) := dk_177 (dk_at dksX5_init_0 18 rfl rfl)
abbrev cX5_of : ByteArray := prog_4_method_2_code
def yX5_of : MethodName := ⟨RX5, "of", "(LWidowRoads$Slot;I)LWidowRoads$Faced;"⟩
def dkwX5_of_5 : List UInt8 := [176]
abbrev dktX5_of_5 : List UInt8 := dkwX5_of_5 ++ []
def dkwX5_of_4 : List UInt8 := [28, 21, 4, 182, 0, 43, 79, 132, 4, 1, 167, 255, 222, 132, 3, 1, 167, 255, 154, 42, 182, 0, 46, 42]
abbrev dktX5_of_4 : List UInt8 := dkwX5_of_4 ++ dktX5_of_5
def dkwX5_of_3 : List UInt8 := [21, 4, 16, 40, 163, 0, 33, 42, 180, 0, 15, 7, 21, 4, 104, 29, 96, 42, 180, 0, 3, 180, 0, 23]
abbrev dktX5_of_3 : List UInt8 := dkwX5_of_3 ++ dktX5_of_4
def dkwX5_of_2 : List UInt8 := [180, 0, 3, 43, 182, 0, 39, 153, 0, 9, 4, 29, 120, 167, 0, 4, 3, 128, 181, 0, 19, 3, 54, 4]
abbrev dktX5_of_2 : List UInt8 := dkwX5_of_2 ++ dktX5_of_3
def dkwX5_of_1 : List UInt8 := [180, 0, 33, 28, 29, 79, 42, 180, 0, 3, 180, 0, 23, 182, 0, 36, 87, 42, 89, 180, 0, 19, 42]
abbrev dktX5_of_1 : List UInt8 := dkwX5_of_1 ++ dktX5_of_2
def dkwX5_of_0 : List UInt8 := [42, 3, 181, 0, 19, 3, 62, 29, 7, 162, 0, 103, 42, 180, 0, 3, 180, 0, 23, 182, 0, 27]
abbrev dktX5_of_0 : List UInt8 := dkwX5_of_0 ++ dktX5_of_1
theorem dksX5_of_0 : cX5_of.data.toList.drop 0 = dktX5_of_0 := by decide +kernel
theorem dksX5_of_1 : cX5_of.data.toList.drop 22 = dktX5_of_1 := dk_seg dksX5_of_0 22 rfl rfl
theorem dksX5_of_2 : cX5_of.data.toList.drop 45 = dktX5_of_2 := dk_seg dksX5_of_1 23 rfl rfl
theorem dksX5_of_3 : cX5_of.data.toList.drop 69 = dktX5_of_3 := dk_seg dksX5_of_2 24 rfl rfl
theorem dksX5_of_4 : cX5_of.data.toList.drop 93 = dktX5_of_4 := dk_seg dksX5_of_3 24 rfl rfl
theorem dksX5_of_5 : cX5_of.data.toList.drop 117 = dktX5_of_5 := dk_seg dksX5_of_4 24 rfl rfl
theorem dX5_of_0 : decode cX5_of 0 = .ok (.aload_n 0, 1) := dk_42 (dk_at dksX5_of_0 0 rfl rfl)
theorem dX5_of_1 : decode cX5_of 1 = .ok (.iconst 0, 1) := dk_3 (dk_at dksX5_of_0 1 rfl rfl)
theorem dX5_of_2 : decode cX5_of 2 = .ok (.putfield 19, 3) := dk_181 0 19 (dk_at dksX5_of_0 2 rfl rfl)
theorem dX5_of_5 : decode cX5_of 5 = .ok (.iconst 0, 1) := dk_3 (dk_at dksX5_of_0 5 rfl rfl)
theorem dX5_of_6 : decode cX5_of 6 = .ok (.istore_n 3, 1) := dk_62 (dk_at dksX5_of_0 6 rfl rfl)
theorem dX5_of_7 : decode cX5_of 7 = .ok (.iload_n 3, 1) := dk_29 (dk_at dksX5_of_0 7 rfl rfl)
theorem dX5_of_8 : decode cX5_of 8 = .ok (.iconst 4, 1) := dk_7 (dk_at dksX5_of_0 8 rfl rfl)
theorem dX5_of_9 : decode cX5_of 9 = .ok (.if_icmp .ge 103, 3) := dk_162 0 103 (dk_at dksX5_of_0 9 rfl rfl)
theorem dX5_of_12 : decode cX5_of 12 = .ok (.aload_n 0, 1) := dk_42 (dk_at dksX5_of_0 12 rfl rfl)
theorem dX5_of_13 : decode cX5_of 13 = .ok (.getfield 3, 3) := dk_180 0 3 (dk_at dksX5_of_0 13 rfl rfl)
theorem dX5_of_16 : decode cX5_of 16 = .ok (.getfield 23, 3) := dk_180 0 23 (dk_at dksX5_of_0 16 rfl rfl)
theorem dX5_of_19 : decode cX5_of 19 = .ok (.invokevirtual 27, 3) := dk_182 0 27 (dk_at dksX5_of_0 19 rfl rfl)
theorem dX5_of_22 : decode cX5_of 22 = .ok (.getfield 33, 3) := dk_180 0 33 (dk_at dksX5_of_1 0 rfl rfl)
theorem dX5_of_25 : decode cX5_of 25 = .ok (.iload_n 2, 1) := dk_28 (dk_at dksX5_of_1 3 rfl rfl)
theorem dX5_of_26 : decode cX5_of 26 = .ok (.iload_n 3, 1) := dk_29 (dk_at dksX5_of_1 4 rfl rfl)
theorem dX5_of_27 : decode cX5_of 27 = .ok (.iastore, 1) := dk_79 (dk_at dksX5_of_1 5 rfl rfl)
theorem dX5_of_28 : decode cX5_of 28 = .ok (.aload_n 0, 1) := dk_42 (dk_at dksX5_of_1 6 rfl rfl)
theorem dX5_of_29 : decode cX5_of 29 = .ok (.getfield 3, 3) := dk_180 0 3 (dk_at dksX5_of_1 7 rfl rfl)
theorem dX5_of_32 : decode cX5_of 32 = .ok (.getfield 23, 3) := dk_180 0 23 (dk_at dksX5_of_1 10 rfl rfl)
theorem dX5_of_35 : decode cX5_of 35 = .ok (.invokevirtual 36, 3) := dk_182 0 36 (dk_at dksX5_of_1 13 rfl rfl)
theorem dX5_of_38 : decode cX5_of 38 = .ok (.pop, 1) := dk_87 (dk_at dksX5_of_1 16 rfl rfl)
theorem dX5_of_39 : decode cX5_of 39 = .ok (.aload_n 0, 1) := dk_42 (dk_at dksX5_of_1 17 rfl rfl)
theorem dX5_of_40 : decode cX5_of 40 = .ok (.dup, 1) := dk_89 (dk_at dksX5_of_1 18 rfl rfl)
theorem dX5_of_41 : decode cX5_of 41 = .ok (.getfield 19, 3) := dk_180 0 19 (dk_at dksX5_of_1 19 rfl rfl)
theorem dX5_of_44 : decode cX5_of 44 = .ok (.aload_n 0, 1) := dk_42 (dk_at dksX5_of_1 22 rfl rfl)
theorem dX5_of_45 : decode cX5_of 45 = .ok (.getfield 3, 3) := dk_180 0 3 (dk_at dksX5_of_2 0 rfl rfl)
theorem dX5_of_48 : decode cX5_of 48 = .ok (.aload_n 1, 1) := dk_43 (dk_at dksX5_of_2 3 rfl rfl)
theorem dX5_of_49 : decode cX5_of 49 = .ok (.invokevirtual 39, 3) := dk_182 0 39 (dk_at dksX5_of_2 4 rfl rfl)
theorem dX5_of_52 : decode cX5_of 52 = .ok (.ifCond .eq 9, 3) := dk_153 0 9 (dk_at dksX5_of_2 7 rfl rfl)
theorem dX5_of_55 : decode cX5_of 55 = .ok (.iconst 1, 1) := dk_4 (dk_at dksX5_of_2 10 rfl rfl)
theorem dX5_of_56 : decode cX5_of 56 = .ok (.iload_n 3, 1) := dk_29 (dk_at dksX5_of_2 11 rfl rfl)
theorem dX5_of_57 : decode cX5_of 57 = .ok (.ishl, 1) := dk_120 (dk_at dksX5_of_2 12 rfl rfl)
theorem dX5_of_58 : decode cX5_of 58 = .ok (.goto 4, 3) := dk_167 0 4 (dk_at dksX5_of_2 13 rfl rfl)
theorem dX5_of_61 : decode cX5_of 61 = .ok (.iconst 0, 1) := dk_3 (dk_at dksX5_of_2 16 rfl rfl)
theorem dX5_of_62 : decode cX5_of 62 = .ok (.ior, 1) := dk_128 (dk_at dksX5_of_2 17 rfl rfl)
theorem dX5_of_63 : decode cX5_of 63 = .ok (.putfield 19, 3) := dk_181 0 19 (dk_at dksX5_of_2 18 rfl rfl)
theorem dX5_of_66 : decode cX5_of 66 = .ok (.iconst 0, 1) := dk_3 (dk_at dksX5_of_2 21 rfl rfl)
theorem dX5_of_67 : decode cX5_of 67 = .ok (.istore 4, 2) := dk_54 4 (dk_at dksX5_of_2 22 rfl rfl)
theorem dX5_of_69 : decode cX5_of 69 = .ok (.iload 4, 2) := dk_21 4 (dk_at dksX5_of_3 0 rfl rfl)
theorem dX5_of_71 : decode cX5_of 71 = .ok (.bipush 40, 2) := dk_16 40 (dk_at dksX5_of_3 2 rfl rfl)
theorem dX5_of_73 : decode cX5_of 73 = .ok (.if_icmp .gt 33, 3) := dk_163 0 33 (dk_at dksX5_of_3 4 rfl rfl)
theorem dX5_of_76 : decode cX5_of 76 = .ok (.aload_n 0, 1) := dk_42 (dk_at dksX5_of_3 7 rfl rfl)
theorem dX5_of_77 : decode cX5_of 77 = .ok (.getfield 15, 3) := dk_180 0 15 (dk_at dksX5_of_3 8 rfl rfl)
theorem dX5_of_80 : decode cX5_of 80 = .ok (.iconst 4, 1) := dk_7 (dk_at dksX5_of_3 11 rfl rfl)
theorem dX5_of_81 : decode cX5_of 81 = .ok (.iload 4, 2) := dk_21 4 (dk_at dksX5_of_3 12 rfl rfl)
theorem dX5_of_83 : decode cX5_of 83 = .ok (.imul, 1) := dk_104 (dk_at dksX5_of_3 14 rfl rfl)
theorem dX5_of_84 : decode cX5_of 84 = .ok (.iload_n 3, 1) := dk_29 (dk_at dksX5_of_3 15 rfl rfl)
theorem dX5_of_85 : decode cX5_of 85 = .ok (.iadd, 1) := dk_96 (dk_at dksX5_of_3 16 rfl rfl)
theorem dX5_of_86 : decode cX5_of 86 = .ok (.aload_n 0, 1) := dk_42 (dk_at dksX5_of_3 17 rfl rfl)
theorem dX5_of_87 : decode cX5_of 87 = .ok (.getfield 3, 3) := dk_180 0 3 (dk_at dksX5_of_3 18 rfl rfl)
theorem dX5_of_90 : decode cX5_of 90 = .ok (.getfield 23, 3) := dk_180 0 23 (dk_at dksX5_of_3 21 rfl rfl)
theorem dX5_of_93 : decode cX5_of 93 = .ok (.iload_n 2, 1) := dk_28 (dk_at dksX5_of_4 0 rfl rfl)
theorem dX5_of_94 : decode cX5_of 94 = .ok (.iload 4, 2) := dk_21 4 (dk_at dksX5_of_4 1 rfl rfl)
theorem dX5_of_96 : decode cX5_of 96 = .ok (.invokevirtual 43, 3) := dk_182 0 43 (dk_at dksX5_of_4 3 rfl rfl)
theorem dX5_of_99 : decode cX5_of 99 = .ok (.iastore, 1) := dk_79 (dk_at dksX5_of_4 6 rfl rfl)
theorem dX5_of_100 : decode cX5_of 100 = .ok (.iinc 4 1, 3) := dk_132 4 1 (dk_at dksX5_of_4 7 rfl rfl)
theorem dX5_of_103 : decode cX5_of 103 = .ok (.goto (-34), 3) := dk_167 255 222 (dk_at dksX5_of_4 10 rfl rfl)
theorem dX5_of_106 : decode cX5_of 106 = .ok (.iinc 3 1, 3) := dk_132 3 1 (dk_at dksX5_of_4 13 rfl rfl)
theorem dX5_of_109 : decode cX5_of 109 = .ok (.goto (-102), 3) := dk_167 255 154 (dk_at dksX5_of_4 16 rfl rfl)
theorem dX5_of_112 : decode cX5_of 112 = .ok (.aload_n 0, 1) := dk_42 (dk_at dksX5_of_4 19 rfl rfl)
theorem dX5_of_113 : decode cX5_of 113 = .ok (.invokevirtual 46, 3) := dk_182 0 46 (dk_at dksX5_of_4 20 rfl rfl)
theorem dX5_of_116 : decode cX5_of 116 = .ok (.aload_n 0, 1) := dk_42 (dk_at dksX5_of_4 23 rfl rfl)
theorem dX5_of_117 : decode cX5_of 117 = .ok (.areturn, 1) := dk_176 (dk_at dksX5_of_5 0 rfl rfl)
abbrev cX5_asks : ByteArray := prog_4_method_4_code
def yX5_asks : MethodName := ⟨RX5, "asks", "()V"⟩
def dkwX5_asks_2 : List UInt8 := [182, 0, 68, 181, 0, 65, 132, 1, 1, 167, 255, 218, 177]
abbrev dktX5_asks_2 : List UInt8 := dkwX5_asks_2 ++ []
def dkwX5_asks_1 : List UInt8 := [42, 27, 182, 0, 68, 42, 180, 0, 65, 161, 0, 6, 167, 0, 17, 42, 27, 181, 0, 58, 42, 42, 27]
abbrev dktX5_asks_1 : List UInt8 := dkwX5_asks_1 ++ dktX5_asks_2
def dkwX5_asks_0 : List UInt8 := [42, 2, 181, 0, 58, 42, 42, 180, 0, 19, 184, 0, 61, 181, 0, 65, 3, 60, 27, 16, 40, 163, 0, 38]
abbrev dktX5_asks_0 : List UInt8 := dkwX5_asks_0 ++ dktX5_asks_1
theorem dksX5_asks_0 : cX5_asks.data.toList.drop 0 = dktX5_asks_0 := by decide +kernel
theorem dksX5_asks_1 : cX5_asks.data.toList.drop 24 = dktX5_asks_1 := dk_seg dksX5_asks_0 24 rfl rfl
theorem dksX5_asks_2 : cX5_asks.data.toList.drop 47 = dktX5_asks_2 := dk_seg dksX5_asks_1 23 rfl rfl
theorem dX5_asks_0 : decode cX5_asks 0 = .ok (.aload_n 0, 1) := dk_42 (dk_at dksX5_asks_0 0 rfl rfl)
theorem dX5_asks_1 : decode cX5_asks 1 = .ok (.iconst (-1), 1) := dk_2 (dk_at dksX5_asks_0 1 rfl rfl)
theorem dX5_asks_2 : decode cX5_asks 2 = .ok (.putfield 58, 3) := dk_181 0 58 (dk_at dksX5_asks_0 2 rfl rfl)
theorem dX5_asks_5 : decode cX5_asks 5 = .ok (.aload_n 0, 1) := dk_42 (dk_at dksX5_asks_0 5 rfl rfl)
theorem dX5_asks_6 : decode cX5_asks 6 = .ok (.aload_n 0, 1) := dk_42 (dk_at dksX5_asks_0 6 rfl rfl)
theorem dX5_asks_7 : decode cX5_asks 7 = .ok (.getfield 19, 3) := dk_180 0 19 (dk_at dksX5_asks_0 7 rfl rfl)
theorem dX5_asks_10 : decode cX5_asks 10 = .ok (.invokestatic 61, 3) := dk_184 0 61 (dk_at dksX5_asks_0 10 rfl rfl)
theorem dX5_asks_13 : decode cX5_asks 13 = .ok (.putfield 65, 3) := dk_181 0 65 (dk_at dksX5_asks_0 13 rfl rfl)
theorem dX5_asks_16 : decode cX5_asks 16 = .ok (.iconst 0, 1) := dk_3 (dk_at dksX5_asks_0 16 rfl rfl)
theorem dX5_asks_17 : decode cX5_asks 17 = .ok (.istore_n 1, 1) := dk_60 (dk_at dksX5_asks_0 17 rfl rfl)
theorem dX5_asks_18 : decode cX5_asks 18 = .ok (.iload_n 1, 1) := dk_27 (dk_at dksX5_asks_0 18 rfl rfl)
theorem dX5_asks_19 : decode cX5_asks 19 = .ok (.bipush 40, 2) := dk_16 40 (dk_at dksX5_asks_0 19 rfl rfl)
theorem dX5_asks_21 : decode cX5_asks 21 = .ok (.if_icmp .gt 38, 3) := dk_163 0 38 (dk_at dksX5_asks_0 21 rfl rfl)
theorem dX5_asks_24 : decode cX5_asks 24 = .ok (.aload_n 0, 1) := dk_42 (dk_at dksX5_asks_1 0 rfl rfl)
theorem dX5_asks_25 : decode cX5_asks 25 = .ok (.iload_n 1, 1) := dk_27 (dk_at dksX5_asks_1 1 rfl rfl)
theorem dX5_asks_26 : decode cX5_asks 26 = .ok (.invokevirtual 68, 3) := dk_182 0 68 (dk_at dksX5_asks_1 2 rfl rfl)
theorem dX5_asks_29 : decode cX5_asks 29 = .ok (.aload_n 0, 1) := dk_42 (dk_at dksX5_asks_1 5 rfl rfl)
theorem dX5_asks_30 : decode cX5_asks 30 = .ok (.getfield 65, 3) := dk_180 0 65 (dk_at dksX5_asks_1 6 rfl rfl)
theorem dX5_asks_33 : decode cX5_asks 33 = .ok (.if_icmp .lt 6, 3) := dk_161 0 6 (dk_at dksX5_asks_1 9 rfl rfl)
theorem dX5_asks_36 : decode cX5_asks 36 = .ok (.goto 17, 3) := dk_167 0 17 (dk_at dksX5_asks_1 12 rfl rfl)
theorem dX5_asks_39 : decode cX5_asks 39 = .ok (.aload_n 0, 1) := dk_42 (dk_at dksX5_asks_1 15 rfl rfl)
theorem dX5_asks_40 : decode cX5_asks 40 = .ok (.iload_n 1, 1) := dk_27 (dk_at dksX5_asks_1 16 rfl rfl)
theorem dX5_asks_41 : decode cX5_asks 41 = .ok (.putfield 58, 3) := dk_181 0 58 (dk_at dksX5_asks_1 17 rfl rfl)
theorem dX5_asks_44 : decode cX5_asks 44 = .ok (.aload_n 0, 1) := dk_42 (dk_at dksX5_asks_1 20 rfl rfl)
theorem dX5_asks_45 : decode cX5_asks 45 = .ok (.aload_n 0, 1) := dk_42 (dk_at dksX5_asks_1 21 rfl rfl)
theorem dX5_asks_46 : decode cX5_asks 46 = .ok (.iload_n 1, 1) := dk_27 (dk_at dksX5_asks_1 22 rfl rfl)
theorem dX5_asks_47 : decode cX5_asks 47 = .ok (.invokevirtual 68, 3) := dk_182 0 68 (dk_at dksX5_asks_2 0 rfl rfl)
theorem dX5_asks_50 : decode cX5_asks 50 = .ok (.putfield 65, 3) := dk_181 0 65 (dk_at dksX5_asks_2 3 rfl rfl)
theorem dX5_asks_53 : decode cX5_asks 53 = .ok (.iinc 1 1, 3) := dk_132 1 1 (dk_at dksX5_asks_2 6 rfl rfl)
theorem dX5_asks_56 : decode cX5_asks 56 = .ok (.goto (-38), 3) := dk_167 255 218 (dk_at dksX5_asks_2 9 rfl rfl)
theorem dX5_asks_59 : decode cX5_asks 59 = .ok (.return_, 1) := dk_177 (dk_at dksX5_asks_2 12 rfl rfl)
abbrev cX5_worstAt : ByteArray := prog_4_method_3_code
def yX5_worstAt : MethodName := ⟨RX5, "worstAt", "(I)I"⟩
def dkwX5_worstAt_4 : List UInt8 := [167, 255, 166, 28, 172]
abbrev dktX5_worstAt_4 : List UInt8 := dkwX5_worstAt_4 ++ []
def dkwX5_worstAt_3 : List UInt8 := [4, 167, 0, 4, 3, 96, 54, 4, 132, 5, 1, 167, 255, 190, 28, 21, 4, 184, 0, 53, 61, 132, 3, 1]
abbrev dktX5_worstAt_3 : List UInt8 := dkwX5_worstAt_3 ++ dktX5_worstAt_4
def dkwX5_worstAt_2 : List UInt8 := [42, 180, 0, 15, 7, 27, 104, 21, 5, 96, 46, 42, 180, 0, 15, 7, 27, 104, 29, 96, 46, 160, 0, 7]
abbrev dktX5_worstAt_2 : List UInt8 := dkwX5_worstAt_2 ++ dktX5_worstAt_3
def dkwX5_worstAt_1 : List UInt8 := [180, 0, 19, 29, 184, 0, 49, 153, 0, 55, 21, 4, 42, 180, 0, 19, 21, 5, 184, 0, 49, 153, 0, 31]
abbrev dktX5_worstAt_1 : List UInt8 := dkwX5_worstAt_1 ++ dktX5_worstAt_2
def dkwX5_worstAt_0 : List UInt8 := [3, 61, 3, 62, 29, 7, 162, 0, 91, 3, 54, 4, 3, 54, 5, 21, 5, 7, 162, 0, 66, 42]
abbrev dktX5_worstAt_0 : List UInt8 := dkwX5_worstAt_0 ++ dktX5_worstAt_1
theorem dksX5_worstAt_0 : cX5_worstAt.data.toList.drop 0 = dktX5_worstAt_0 := by decide +kernel
theorem dksX5_worstAt_1 : cX5_worstAt.data.toList.drop 22 = dktX5_worstAt_1 := dk_seg dksX5_worstAt_0 22 rfl rfl
theorem dksX5_worstAt_2 : cX5_worstAt.data.toList.drop 46 = dktX5_worstAt_2 := dk_seg dksX5_worstAt_1 24 rfl rfl
theorem dksX5_worstAt_3 : cX5_worstAt.data.toList.drop 70 = dktX5_worstAt_3 := dk_seg dksX5_worstAt_2 24 rfl rfl
theorem dksX5_worstAt_4 : cX5_worstAt.data.toList.drop 94 = dktX5_worstAt_4 := dk_seg dksX5_worstAt_3 24 rfl rfl
theorem dX5_worstAt_0 : decode cX5_worstAt 0 = .ok (.iconst 0, 1) := dk_3 (dk_at dksX5_worstAt_0 0 rfl rfl)
theorem dX5_worstAt_1 : decode cX5_worstAt 1 = .ok (.istore_n 2, 1) := dk_61 (dk_at dksX5_worstAt_0 1 rfl rfl)
theorem dX5_worstAt_2 : decode cX5_worstAt 2 = .ok (.iconst 0, 1) := dk_3 (dk_at dksX5_worstAt_0 2 rfl rfl)
theorem dX5_worstAt_3 : decode cX5_worstAt 3 = .ok (.istore_n 3, 1) := dk_62 (dk_at dksX5_worstAt_0 3 rfl rfl)
theorem dX5_worstAt_4 : decode cX5_worstAt 4 = .ok (.iload_n 3, 1) := dk_29 (dk_at dksX5_worstAt_0 4 rfl rfl)
theorem dX5_worstAt_5 : decode cX5_worstAt 5 = .ok (.iconst 4, 1) := dk_7 (dk_at dksX5_worstAt_0 5 rfl rfl)
theorem dX5_worstAt_6 : decode cX5_worstAt 6 = .ok (.if_icmp .ge 91, 3) := dk_162 0 91 (dk_at dksX5_worstAt_0 6 rfl rfl)
theorem dX5_worstAt_9 : decode cX5_worstAt 9 = .ok (.iconst 0, 1) := dk_3 (dk_at dksX5_worstAt_0 9 rfl rfl)
theorem dX5_worstAt_10 : decode cX5_worstAt 10 = .ok (.istore 4, 2) := dk_54 4 (dk_at dksX5_worstAt_0 10 rfl rfl)
theorem dX5_worstAt_12 : decode cX5_worstAt 12 = .ok (.iconst 0, 1) := dk_3 (dk_at dksX5_worstAt_0 12 rfl rfl)
theorem dX5_worstAt_13 : decode cX5_worstAt 13 = .ok (.istore 5, 2) := dk_54 5 (dk_at dksX5_worstAt_0 13 rfl rfl)
theorem dX5_worstAt_15 : decode cX5_worstAt 15 = .ok (.iload 5, 2) := dk_21 5 (dk_at dksX5_worstAt_0 15 rfl rfl)
theorem dX5_worstAt_17 : decode cX5_worstAt 17 = .ok (.iconst 4, 1) := dk_7 (dk_at dksX5_worstAt_0 17 rfl rfl)
theorem dX5_worstAt_18 : decode cX5_worstAt 18 = .ok (.if_icmp .ge 66, 3) := dk_162 0 66 (dk_at dksX5_worstAt_0 18 rfl rfl)
theorem dX5_worstAt_21 : decode cX5_worstAt 21 = .ok (.aload_n 0, 1) := dk_42 (dk_at dksX5_worstAt_0 21 rfl rfl)
theorem dX5_worstAt_22 : decode cX5_worstAt 22 = .ok (.getfield 19, 3) := dk_180 0 19 (dk_at dksX5_worstAt_1 0 rfl rfl)
theorem dX5_worstAt_25 : decode cX5_worstAt 25 = .ok (.iload_n 3, 1) := dk_29 (dk_at dksX5_worstAt_1 3 rfl rfl)
theorem dX5_worstAt_26 : decode cX5_worstAt 26 = .ok (.invokestatic 49, 3) := dk_184 0 49 (dk_at dksX5_worstAt_1 4 rfl rfl)
theorem dX5_worstAt_29 : decode cX5_worstAt 29 = .ok (.ifCond .eq 55, 3) := dk_153 0 55 (dk_at dksX5_worstAt_1 7 rfl rfl)
theorem dX5_worstAt_32 : decode cX5_worstAt 32 = .ok (.iload 4, 2) := dk_21 4 (dk_at dksX5_worstAt_1 10 rfl rfl)
theorem dX5_worstAt_34 : decode cX5_worstAt 34 = .ok (.aload_n 0, 1) := dk_42 (dk_at dksX5_worstAt_1 12 rfl rfl)
theorem dX5_worstAt_35 : decode cX5_worstAt 35 = .ok (.getfield 19, 3) := dk_180 0 19 (dk_at dksX5_worstAt_1 13 rfl rfl)
theorem dX5_worstAt_38 : decode cX5_worstAt 38 = .ok (.iload 5, 2) := dk_21 5 (dk_at dksX5_worstAt_1 16 rfl rfl)
theorem dX5_worstAt_40 : decode cX5_worstAt 40 = .ok (.invokestatic 49, 3) := dk_184 0 49 (dk_at dksX5_worstAt_1 18 rfl rfl)
theorem dX5_worstAt_43 : decode cX5_worstAt 43 = .ok (.ifCond .eq 31, 3) := dk_153 0 31 (dk_at dksX5_worstAt_1 21 rfl rfl)
theorem dX5_worstAt_46 : decode cX5_worstAt 46 = .ok (.aload_n 0, 1) := dk_42 (dk_at dksX5_worstAt_2 0 rfl rfl)
theorem dX5_worstAt_47 : decode cX5_worstAt 47 = .ok (.getfield 15, 3) := dk_180 0 15 (dk_at dksX5_worstAt_2 1 rfl rfl)
theorem dX5_worstAt_50 : decode cX5_worstAt 50 = .ok (.iconst 4, 1) := dk_7 (dk_at dksX5_worstAt_2 4 rfl rfl)
theorem dX5_worstAt_51 : decode cX5_worstAt 51 = .ok (.iload_n 1, 1) := dk_27 (dk_at dksX5_worstAt_2 5 rfl rfl)
theorem dX5_worstAt_52 : decode cX5_worstAt 52 = .ok (.imul, 1) := dk_104 (dk_at dksX5_worstAt_2 6 rfl rfl)
theorem dX5_worstAt_53 : decode cX5_worstAt 53 = .ok (.iload 5, 2) := dk_21 5 (dk_at dksX5_worstAt_2 7 rfl rfl)
theorem dX5_worstAt_55 : decode cX5_worstAt 55 = .ok (.iadd, 1) := dk_96 (dk_at dksX5_worstAt_2 9 rfl rfl)
theorem dX5_worstAt_56 : decode cX5_worstAt 56 = .ok (.iaload, 1) := dk_46 (dk_at dksX5_worstAt_2 10 rfl rfl)
theorem dX5_worstAt_57 : decode cX5_worstAt 57 = .ok (.aload_n 0, 1) := dk_42 (dk_at dksX5_worstAt_2 11 rfl rfl)
theorem dX5_worstAt_58 : decode cX5_worstAt 58 = .ok (.getfield 15, 3) := dk_180 0 15 (dk_at dksX5_worstAt_2 12 rfl rfl)
theorem dX5_worstAt_61 : decode cX5_worstAt 61 = .ok (.iconst 4, 1) := dk_7 (dk_at dksX5_worstAt_2 15 rfl rfl)
theorem dX5_worstAt_62 : decode cX5_worstAt 62 = .ok (.iload_n 1, 1) := dk_27 (dk_at dksX5_worstAt_2 16 rfl rfl)
theorem dX5_worstAt_63 : decode cX5_worstAt 63 = .ok (.imul, 1) := dk_104 (dk_at dksX5_worstAt_2 17 rfl rfl)
theorem dX5_worstAt_64 : decode cX5_worstAt 64 = .ok (.iload_n 3, 1) := dk_29 (dk_at dksX5_worstAt_2 18 rfl rfl)
theorem dX5_worstAt_65 : decode cX5_worstAt 65 = .ok (.iadd, 1) := dk_96 (dk_at dksX5_worstAt_2 19 rfl rfl)
theorem dX5_worstAt_66 : decode cX5_worstAt 66 = .ok (.iaload, 1) := dk_46 (dk_at dksX5_worstAt_2 20 rfl rfl)
theorem dX5_worstAt_67 : decode cX5_worstAt 67 = .ok (.if_icmp .ne 7, 3) := dk_160 0 7 (dk_at dksX5_worstAt_2 21 rfl rfl)
theorem dX5_worstAt_70 : decode cX5_worstAt 70 = .ok (.iconst 1, 1) := dk_4 (dk_at dksX5_worstAt_3 0 rfl rfl)
theorem dX5_worstAt_71 : decode cX5_worstAt 71 = .ok (.goto 4, 3) := dk_167 0 4 (dk_at dksX5_worstAt_3 1 rfl rfl)
theorem dX5_worstAt_74 : decode cX5_worstAt 74 = .ok (.iconst 0, 1) := dk_3 (dk_at dksX5_worstAt_3 4 rfl rfl)
theorem dX5_worstAt_75 : decode cX5_worstAt 75 = .ok (.iadd, 1) := dk_96 (dk_at dksX5_worstAt_3 5 rfl rfl)
theorem dX5_worstAt_76 : decode cX5_worstAt 76 = .ok (.istore 4, 2) := dk_54 4 (dk_at dksX5_worstAt_3 6 rfl rfl)
theorem dX5_worstAt_78 : decode cX5_worstAt 78 = .ok (.iinc 5 1, 3) := dk_132 5 1 (dk_at dksX5_worstAt_3 8 rfl rfl)
theorem dX5_worstAt_81 : decode cX5_worstAt 81 = .ok (.goto (-66), 3) := dk_167 255 190 (dk_at dksX5_worstAt_3 11 rfl rfl)
theorem dX5_worstAt_84 : decode cX5_worstAt 84 = .ok (.iload_n 2, 1) := dk_28 (dk_at dksX5_worstAt_3 14 rfl rfl)
theorem dX5_worstAt_85 : decode cX5_worstAt 85 = .ok (.iload 4, 2) := dk_21 4 (dk_at dksX5_worstAt_3 15 rfl rfl)
theorem dX5_worstAt_87 : decode cX5_worstAt 87 = .ok (.invokestatic 53, 3) := dk_184 0 53 (dk_at dksX5_worstAt_3 17 rfl rfl)
theorem dX5_worstAt_90 : decode cX5_worstAt 90 = .ok (.istore_n 2, 1) := dk_61 (dk_at dksX5_worstAt_3 20 rfl rfl)
theorem dX5_worstAt_91 : decode cX5_worstAt 91 = .ok (.iinc 3 1, 3) := dk_132 3 1 (dk_at dksX5_worstAt_3 21 rfl rfl)
theorem dX5_worstAt_94 : decode cX5_worstAt 94 = .ok (.goto (-90), 3) := dk_167 255 166 (dk_at dksX5_worstAt_4 0 rfl rfl)
theorem dX5_worstAt_97 : decode cX5_worstAt 97 = .ok (.iload_n 2, 1) := dk_28 (dk_at dksX5_worstAt_4 3 rfl rfl)
theorem dX5_worstAt_98 : decode cX5_worstAt 98 = .ok (.ireturn, 1) := dk_172 (dk_at dksX5_worstAt_4 4 rfl rfl)
theorem q149 : (Jvm.Cond.initialized "WidowRoads$Faced") ∈ lw_all := lw_g (lw_at lw_m1 9 rfl) rfl
theorem q512 : (Jvm.Cond.fieldLinkNest "WidowRoads$Faced" (33 : Nat) "WidowRoads$Walks" "faces" "[I" "WidowRoads") ∈ lw_tbl := lw_at lw_m2 132 rfl
theorem q593 : (Jvm.Cond.instantiable "WidowRoads$Faced" (5 : Nat)) ∈ lw_all := lw_g (lw_at lw_m2 213 rfl) rfl
theorem q595 : (Jvm.Cond.instanceMethod ({ cls := "WidowRoads$Faced", name := "<init>", desc := "(LWidowRoads;)V" } : Jvm.MethodName)) ∈ lw_all := lw_g (lw_at lw_m2 215 rfl) rfl
theorem q596 : (Jvm.Cond.code ({ cls := "WidowRoads$Faced", name := "<init>", desc := "(LWidowRoads;)V" } : Jvm.MethodName) prog_4_method_1_code (2 : Nat) (Option.none : Option Jvm.ClassFile.FieldType)) ∈ lw_all := lw_g (lw_at lw_m2 216 rfl) rfl
theorem q597 : (Jvm.Cond.methodLink "WidowRoads$Faced" (9 : Nat) ({ cls := "java/lang/Object", name := "<init>", desc := "()V" } : Jvm.MethodName)) ∈ lw_all := lw_g (lw_at lw_m2 217 rfl) rfl
theorem q598 : (Jvm.Cond.fieldLink "WidowRoads$Faced" (15 : Nat) "WidowRoads$Faced" "at" "[I") ∈ lw_all := lw_g (lw_at lw_m2 218 rfl) rfl
theorem q599 : (Jvm.Cond.fieldLink "WidowRoads$Faced" (19 : Nat) "WidowRoads$Faced" "bits" "I") ∈ lw_all := lw_g (lw_at lw_m2 219 rfl) rfl
theorem q601 : (Jvm.Cond.fieldLink "WidowRoads$Faced" (58 : Nat) "WidowRoads$Faced" "best" "I") ∈ lw_all := lw_g (lw_at lw_m2 221 rfl) rfl
theorem q603 : (Jvm.Cond.fieldLink "WidowRoads$Faced" (65 : Nat) "WidowRoads$Faced" "leaves" "I") ∈ lw_all := lw_g (lw_at lw_m2 223 rfl) rfl
theorem q605 : (Jvm.Cond.fieldLink "WidowRoads$Faced" (3 : Nat) "WidowRoads$Faced" "this$0" "LWidowRoads;") ∈ lw_all := lw_g (lw_at lw_m2 225 rfl) rfl
theorem q606 : (Jvm.Cond.laysFinal "WidowRoads$Faced" "WidowRoads$Faced" "at" "[I") ∈ lw_all := lw_g (lw_at lw_m2 226 rfl) rfl
theorem q607 : (Jvm.Cond.soleField "WidowRoads$Faced" "at") ∈ lw_all := lw_g (lw_at lw_m2 227 rfl) rfl
theorem q608 : (Jvm.Cond.lays "WidowRoads$Faced" "WidowRoads$Faced" "bits" "I") ∈ lw_all := lw_g (lw_at lw_m2 228 rfl) rfl
theorem q609 : (Jvm.Cond.soleField "WidowRoads$Faced" "bits") ∈ lw_all := lw_g (lw_at lw_m2 229 rfl) rfl
theorem q610 : (Jvm.Cond.lays "WidowRoads$Faced" "WidowRoads$Faced" "best" "I") ∈ lw_all := lw_g (lw_at lw_m2 230 rfl) rfl
theorem q611 : (Jvm.Cond.soleField "WidowRoads$Faced" "best") ∈ lw_all := lw_g (lw_at lw_m2 231 rfl) rfl
theorem q612 : (Jvm.Cond.lays "WidowRoads$Faced" "WidowRoads$Faced" "leaves" "I") ∈ lw_all := lw_g (lw_at lw_m2 232 rfl) rfl
theorem q613 : (Jvm.Cond.soleField "WidowRoads$Faced" "leaves") ∈ lw_all := lw_g (lw_at lw_m2 233 rfl) rfl
theorem q614 : (Jvm.Cond.laysFinal "WidowRoads$Faced" "WidowRoads$Faced" "this$0" "LWidowRoads;") ∈ lw_all := lw_g (lw_at lw_m2 234 rfl) rfl
theorem q615 : (Jvm.Cond.soleField "WidowRoads$Faced" "this$0") ∈ lw_all := lw_g (lw_at lw_m2 235 rfl) rfl
theorem q616 : (Jvm.Cond.superclass "WidowRoads$Faced" "java/lang/Object") ∈ lw_all := lw_g (lw_at lw_m2 236 rfl) rfl
theorem q625 : (Jvm.Cond.fieldLinkNest "WidowRoads$Faced" (23 : Nat) "WidowRoads" "walks" "LWidowRoads$Walks;" "WidowRoads") ∈ lw_tbl := lw_at lw_m3 5 rfl
theorem q887 : (Jvm.Cond.selects "WidowRoads$Faced" ({ cls := "java/lang/Object", name := "equals", desc := "(Ljava/lang/Object;)Z" } : Jvm.MethodName) ({ cls := "java/lang/Object", name := "equals", desc := "(Ljava/lang/Object;)Z" } : Jvm.MethodName)) ∈ lw_all := lw_g (lw_at lw_m4 27 rfl) rfl
theorem q954 : (Jvm.Cond.selects "WidowRoads$Faced" ({ cls := "java/lang/Object", name := "getClass", desc := "()Ljava/lang/Class;" } : Jvm.MethodName) ({ cls := "java/lang/Object", name := "getClass", desc := "()Ljava/lang/Class;" } : Jvm.MethodName)) ∈ lw_all := lw_g (lw_at lw_m4 94 rfl) rfl
theorem q1514 : (Jvm.Cond.instanceMethod ({ cls := "WidowRoads$Faced", name := "of", desc := "(LWidowRoads$Slot;I)LWidowRoads$Faced;" } : Jvm.MethodName)) ∈ lw_all := lw_g (lw_at lw_m6 174 rfl) rfl
theorem q1515 : (Jvm.Cond.selects "WidowRoads$Faced" ({ cls := "WidowRoads$Faced", name := "of", desc := "(LWidowRoads$Slot;I)LWidowRoads$Faced;" } : Jvm.MethodName) ({ cls := "WidowRoads$Faced", name := "of", desc := "(LWidowRoads$Slot;I)LWidowRoads$Faced;" } : Jvm.MethodName)) ∈ lw_all := lw_g (lw_at lw_m6 175 rfl) rfl
theorem q1516 : (Jvm.Cond.code ({ cls := "WidowRoads$Faced", name := "of", desc := "(LWidowRoads$Slot;I)LWidowRoads$Faced;" } : Jvm.MethodName) prog_4_method_2_code (5 : Nat) (Option.some (Jvm.ClassFile.FieldType.object "WidowRoads$Faced"))) ∈ lw_all := lw_g (lw_at lw_m6 176 rfl) rfl
theorem q1517 : (Jvm.Cond.methodLink "WidowRoads$Faced" (27 : Nat) ({ cls := "WidowRoads$Walks", name := "is", desc := "()LWidowRoads$Walks;" } : Jvm.MethodName)) ∈ lw_all := lw_g (lw_at lw_m6 177 rfl) rfl
theorem q1518 : (Jvm.Cond.methodLink "WidowRoads$Faced" (36 : Nat) ({ cls := "WidowRoads$Walks", name := "goes", desc := "()LWidowRoads$Walks;" } : Jvm.MethodName)) ∈ lw_all := lw_g (lw_at lw_m6 178 rfl) rfl
theorem q1519 : (Jvm.Cond.methodLinkNest "WidowRoads$Faced" (39 : Nat) ({ cls := "WidowRoads", name := "isSo", desc := "(LWidowRoads$Slot;)Z" } : Jvm.MethodName) "WidowRoads") ∈ lw_tbl := lw_at lw_m6 179 rfl
theorem q1523 : (Jvm.Cond.methodLink "WidowRoads$Faced" (43 : Nat) ({ cls := "WidowRoads$Walks", name := "at", desc := "(II)I" } : Jvm.MethodName)) ∈ lw_all := lw_g (lw_at lw_m6 183 rfl) rfl
theorem q1524 : (Jvm.Cond.methodLink "WidowRoads$Faced" (46 : Nat) ({ cls := "WidowRoads$Faced", name := "asks", desc := "()V" } : Jvm.MethodName)) ∈ lw_all := lw_g (lw_at lw_m6 184 rfl) rfl
theorem q1525 : (Jvm.Cond.privateMethod ({ cls := "WidowRoads$Faced", name := "asks", desc := "()V" } : Jvm.MethodName)) ∈ lw_tbl := lw_at lw_m6 185 rfl
theorem q1526 : (Jvm.Cond.instanceMethod ({ cls := "WidowRoads$Faced", name := "asks", desc := "()V" } : Jvm.MethodName)) ∈ lw_all := lw_g (lw_at lw_m6 186 rfl) rfl
theorem q1527 : (Jvm.Cond.code ({ cls := "WidowRoads$Faced", name := "asks", desc := "()V" } : Jvm.MethodName) prog_4_method_4_code (2 : Nat) (Option.none : Option Jvm.ClassFile.FieldType)) ∈ lw_all := lw_g (lw_at lw_m6 187 rfl) rfl
theorem q1528 : (Jvm.Cond.methodLinkNest "WidowRoads$Faced" (61 : Nat) ({ cls := "WidowRoads", name := "size", desc := "(I)I" } : Jvm.MethodName) "WidowRoads") ∈ lw_tbl := lw_at lw_m6 188 rfl
theorem q1529 : (Jvm.Cond.methodLink "WidowRoads$Faced" (68 : Nat) ({ cls := "WidowRoads$Faced", name := "worstAt", desc := "(I)I" } : Jvm.MethodName)) ∈ lw_all := lw_g (lw_at lw_m6 189 rfl) rfl
theorem q1530 : (Jvm.Cond.privateMethod ({ cls := "WidowRoads$Faced", name := "worstAt", desc := "(I)I" } : Jvm.MethodName)) ∈ lw_tbl := lw_at lw_m6 190 rfl
theorem q1531 : (Jvm.Cond.instanceMethod ({ cls := "WidowRoads$Faced", name := "worstAt", desc := "(I)I" } : Jvm.MethodName)) ∈ lw_all := lw_g (lw_at lw_m6 191 rfl) rfl
theorem q1532 : (Jvm.Cond.code ({ cls := "WidowRoads$Faced", name := "worstAt", desc := "(I)I" } : Jvm.MethodName) prog_4_method_3_code (6 : Nat) (Option.some Jvm.ClassFile.FieldType.int)) ∈ lw_all := lw_g (lw_at lw_m6 192 rfl) rfl
theorem q1533 : (Jvm.Cond.methodLinkNest "WidowRoads$Faced" (49 : Nat) ({ cls := "WidowRoads", name := "isOn", desc := "(II)Z" } : Jvm.MethodName) "WidowRoads") ∈ lw_tbl := lw_at lw_m6 193 rfl
theorem q1534 : (Jvm.Cond.methodLink "WidowRoads$Faced" (53 : Nat) ({ cls := "java/lang/Math", name := "max", desc := "(II)I" } : Jvm.MethodName)) ∈ lw_all := lw_g (lw_at lw_m6 194 rfl) rfl
theorem q2592 : (Jvm.Cond.castable "WidowRoads$Faced" "java/lang/Object") ∈ lw_tbl := lw_at lw_m11 52 rfl
theorem in_X5 : ∀ w ∈ wsX50, w ∈ lw_all := lw_in wsX50 [606, 608, 610, 612, 614] (by decide +kernel) (by decide +kernel)
/-! WidowRoads$Reader -/
set_option maxRecDepth 100000
def RX7 : String := "WidowRoads$Reader"
def TX7 : u_T := fun k => match k with
  | 0 => ("WidowRoads$Reader", "text", "[B", true)
  | 1 => ("WidowRoads$Reader", "many", "I", true)
  | 2 => ("WidowRoads$Reader", "c", "LWidowRoads$Colony;", true)
  | 3 => ("WidowRoads$Reader", "at", "I", false)
  | 4 => ("WidowRoads$Reader", "begin", "I", false)
  | 5 => ("WidowRoads$Reader", "token", "I", false)
  | _ => ("WidowRoads$Reader", "value", "I", false)
def tyX7 : Nat → FieldType := fun k => match k with
  | 0 => .array .byte
  | 1 => .int
  | 2 => .object "WidowRoads$Colony"
  | 3 => .int
  | 4 => .int
  | 5 => .int
  | _ => .int
abbrev wsX70 : List Cond := u_ws RX7 TX7 7
theorem nmX7 : ∀ a, a < 7 → ∀ b, b < 7 → a ≠ b → (TX7 a).2.1 ≠ (TX7 b).2.1 := by decide +kernel
theorem tyX7_ok : ∀ k, k < 7 → parseFieldDescriptor (TX7 k).2.2.1 = some (tyX7 k) := by decide +kernel
abbrev cX7_init : ByteArray := prog_6_method_1_code
def yX7_init : MethodName := ⟨RX7, "<init>", "([BI)V"⟩
def dkwX7_init_1 : List UInt8 := [181, 0, 22, 42, 182, 0, 26, 177]
abbrev dktX7_init_1 : List UInt8 := dkwX7_init_1 ++ []
def dkwX7_init_0 : List UInt8 := [42, 183, 0, 3, 42, 187, 0, 9, 89, 183, 0, 11, 181, 0, 12, 42, 43, 181, 0, 18, 42, 28]
abbrev dktX7_init_0 : List UInt8 := dkwX7_init_0 ++ dktX7_init_1
theorem dksX7_init_0 : cX7_init.data.toList.drop 0 = dktX7_init_0 := by decide +kernel
theorem dksX7_init_1 : cX7_init.data.toList.drop 22 = dktX7_init_1 := dk_seg dksX7_init_0 22 rfl rfl
theorem dX7_init_0 : decode cX7_init 0 = .ok (.aload_n 0, 1) := dk_42 (dk_at dksX7_init_0 0 rfl rfl)
theorem dX7_init_1 : decode cX7_init 1 = .ok (.invokespecial 3, 3) := dk_183 0 3 (dk_at dksX7_init_0 1 rfl rfl)
theorem dX7_init_4 : decode cX7_init 4 = .ok (.aload_n 0, 1) := dk_42 (dk_at dksX7_init_0 4 rfl rfl)
theorem dX7_init_5 : decode cX7_init 5 = .ok (.new 9, 3) := dk_187 0 9 (dk_at dksX7_init_0 5 rfl rfl)
theorem dX7_init_8 : decode cX7_init 8 = .ok (.dup, 1) := dk_89 (dk_at dksX7_init_0 8 rfl rfl)
theorem dX7_init_9 : decode cX7_init 9 = .ok (.invokespecial 11, 3) := dk_183 0 11 (dk_at dksX7_init_0 9 rfl rfl)
theorem dX7_init_12 : decode cX7_init 12 = .ok (.putfield 12, 3) := dk_181 0 12 (dk_at dksX7_init_0 12 rfl rfl)
theorem dX7_init_15 : decode cX7_init 15 = .ok (.aload_n 0, 1) := dk_42 (dk_at dksX7_init_0 15 rfl rfl)
theorem dX7_init_16 : decode cX7_init 16 = .ok (.aload_n 1, 1) := dk_43 (dk_at dksX7_init_0 16 rfl rfl)
theorem dX7_init_17 : decode cX7_init 17 = .ok (.putfield 18, 3) := dk_181 0 18 (dk_at dksX7_init_0 17 rfl rfl)
theorem dX7_init_20 : decode cX7_init 20 = .ok (.aload_n 0, 1) := dk_42 (dk_at dksX7_init_0 20 rfl rfl)
theorem dX7_init_21 : decode cX7_init 21 = .ok (.iload_n 2, 1) := dk_28 (dk_at dksX7_init_0 21 rfl rfl)
theorem dX7_init_22 : decode cX7_init 22 = .ok (.putfield 22, 3) := dk_181 0 22 (dk_at dksX7_init_1 0 rfl rfl)
theorem dX7_init_25 : decode cX7_init 25 = .ok (.aload_n 0, 1) := dk_42 (dk_at dksX7_init_1 3 rfl rfl)
theorem dX7_init_26 : decode cX7_init 26 = .ok (.invokevirtual 26, 3) := dk_182 0 26 (dk_at dksX7_init_1 4 rfl rfl)
theorem dX7_init_29 : decode cX7_init 29 = .ok (.return_, 1) := dk_177 (dk_at dksX7_init_1 7 rfl rfl)
abbrev cX7_next : ByteArray := prog_6_method_3_code
def yX7_next : MethodName := ⟨RX7, "next", "()V"⟩
def dkwX7_next_8 : List UInt8 := [7, 181, 0, 46, 42, 89, 180, 0, 29, 4, 96, 181, 0, 29, 177]
abbrev dktX7_next_8 : List UInt8 := dkwX7_next_8 ++ []
def dkwX7_next_7 : List UInt8 := [4, 96, 181, 0, 29, 167, 255, 206, 42, 42, 16, 59, 16, 59, 182, 0, 36, 153, 0, 7, 6, 167, 0, 4]
abbrev dktX7_next_7 : List UInt8 := dkwX7_next_7 ++ dktX7_next_8
def dkwX7_next_6 : List UInt8 := [42, 180, 0, 18, 42, 180, 0, 29, 51, 96, 16, 48, 100, 184, 0, 50, 181, 0, 43, 42, 89, 180, 0, 29]
abbrev dktX7_next_6 : List UInt8 := dkwX7_next_6 ++ dktX7_next_7
def dkwX7_next_5 : List UInt8 := [181, 0, 46, 42, 16, 48, 16, 57, 182, 0, 36, 153, 0, 75, 42, 18, 49, 16, 10, 42, 180, 0, 43, 104]
abbrev dktX7_next_5 : List UInt8 := dkwX7_next_5 ++ dktX7_next_6
def dkwX7_next_4 : List UInt8 := [180, 0, 29, 4, 96, 181, 0, 29, 167, 255, 235, 42, 16, 48, 16, 57, 182, 0, 36, 153, 0, 61, 42, 5]
abbrev dktX7_next_4 : List UInt8 := dkwX7_next_4 ++ dktX7_next_5
def dkwX7_next_3 : List UInt8 := [182, 0, 36, 153, 0, 32, 42, 4, 181, 0, 46, 42, 16, 97, 16, 122, 182, 0, 36, 153, 0, 115, 42, 89]
abbrev dktX7_next_3 : List UInt8 := dkwX7_next_3 ++ dktX7_next_4
def dkwX7_next_2 : List UInt8 := [42, 180, 0, 29, 42, 180, 0, 22, 160, 0, 11, 42, 3, 181, 0, 46, 167, 0, 142, 42, 16, 97, 16, 122]
abbrev dktX7_next_2 : List UInt8 := dkwX7_next_2 ++ dktX7_next_3
def dkwX7_next_1 : List UInt8 := [180, 0, 29, 4, 96, 181, 0, 29, 167, 255, 224, 42, 42, 180, 0, 29, 181, 0, 40, 42, 3, 181, 0, 43]
abbrev dktX7_next_1 : List UInt8 := dkwX7_next_1 ++ dktX7_next_2
def dkwX7_next_0 : List UInt8 := [42, 16, 32, 16, 32, 182, 0, 36, 154, 0, 14, 42, 16, 10, 16, 10, 182, 0, 36, 153, 0, 16, 42, 89]
abbrev dktX7_next_0 : List UInt8 := dkwX7_next_0 ++ dktX7_next_1
theorem dksX7_next_0 : cX7_next.data.toList.drop 0 = dktX7_next_0 := by decide +kernel
theorem dksX7_next_1 : cX7_next.data.toList.drop 24 = dktX7_next_1 := dk_seg dksX7_next_0 24 rfl rfl
theorem dksX7_next_2 : cX7_next.data.toList.drop 48 = dktX7_next_2 := dk_seg dksX7_next_1 24 rfl rfl
theorem dksX7_next_3 : cX7_next.data.toList.drop 72 = dktX7_next_3 := dk_seg dksX7_next_2 24 rfl rfl
theorem dksX7_next_4 : cX7_next.data.toList.drop 96 = dktX7_next_4 := dk_seg dksX7_next_3 24 rfl rfl
theorem dksX7_next_5 : cX7_next.data.toList.drop 120 = dktX7_next_5 := dk_seg dksX7_next_4 24 rfl rfl
theorem dksX7_next_6 : cX7_next.data.toList.drop 144 = dktX7_next_6 := dk_seg dksX7_next_5 24 rfl rfl
theorem dksX7_next_7 : cX7_next.data.toList.drop 168 = dktX7_next_7 := dk_seg dksX7_next_6 24 rfl rfl
theorem dksX7_next_8 : cX7_next.data.toList.drop 192 = dktX7_next_8 := dk_seg dksX7_next_7 24 rfl rfl
theorem dX7_next_0 : decode cX7_next 0 = .ok (.aload_n 0, 1) := dk_42 (dk_at dksX7_next_0 0 rfl rfl)
theorem dX7_next_1 : decode cX7_next 1 = .ok (.bipush 32, 2) := dk_16 32 (dk_at dksX7_next_0 1 rfl rfl)
theorem dX7_next_3 : decode cX7_next 3 = .ok (.bipush 32, 2) := dk_16 32 (dk_at dksX7_next_0 3 rfl rfl)
theorem dX7_next_5 : decode cX7_next 5 = .ok (.invokevirtual 36, 3) := dk_182 0 36 (dk_at dksX7_next_0 5 rfl rfl)
theorem dX7_next_8 : decode cX7_next 8 = .ok (.ifCond .ne 14, 3) := dk_154 0 14 (dk_at dksX7_next_0 8 rfl rfl)
theorem dX7_next_11 : decode cX7_next 11 = .ok (.aload_n 0, 1) := dk_42 (dk_at dksX7_next_0 11 rfl rfl)
theorem dX7_next_12 : decode cX7_next 12 = .ok (.bipush 10, 2) := dk_16 10 (dk_at dksX7_next_0 12 rfl rfl)
theorem dX7_next_14 : decode cX7_next 14 = .ok (.bipush 10, 2) := dk_16 10 (dk_at dksX7_next_0 14 rfl rfl)
theorem dX7_next_16 : decode cX7_next 16 = .ok (.invokevirtual 36, 3) := dk_182 0 36 (dk_at dksX7_next_0 16 rfl rfl)
theorem dX7_next_19 : decode cX7_next 19 = .ok (.ifCond .eq 16, 3) := dk_153 0 16 (dk_at dksX7_next_0 19 rfl rfl)
theorem dX7_next_22 : decode cX7_next 22 = .ok (.aload_n 0, 1) := dk_42 (dk_at dksX7_next_0 22 rfl rfl)
theorem dX7_next_23 : decode cX7_next 23 = .ok (.dup, 1) := dk_89 (dk_at dksX7_next_0 23 rfl rfl)
theorem dX7_next_24 : decode cX7_next 24 = .ok (.getfield 29, 3) := dk_180 0 29 (dk_at dksX7_next_1 0 rfl rfl)
theorem dX7_next_27 : decode cX7_next 27 = .ok (.iconst 1, 1) := dk_4 (dk_at dksX7_next_1 3 rfl rfl)
theorem dX7_next_28 : decode cX7_next 28 = .ok (.iadd, 1) := dk_96 (dk_at dksX7_next_1 4 rfl rfl)
theorem dX7_next_29 : decode cX7_next 29 = .ok (.putfield 29, 3) := dk_181 0 29 (dk_at dksX7_next_1 5 rfl rfl)
theorem dX7_next_32 : decode cX7_next 32 = .ok (.goto (-32), 3) := dk_167 255 224 (dk_at dksX7_next_1 8 rfl rfl)
theorem dX7_next_35 : decode cX7_next 35 = .ok (.aload_n 0, 1) := dk_42 (dk_at dksX7_next_1 11 rfl rfl)
theorem dX7_next_36 : decode cX7_next 36 = .ok (.aload_n 0, 1) := dk_42 (dk_at dksX7_next_1 12 rfl rfl)
theorem dX7_next_37 : decode cX7_next 37 = .ok (.getfield 29, 3) := dk_180 0 29 (dk_at dksX7_next_1 13 rfl rfl)
theorem dX7_next_40 : decode cX7_next 40 = .ok (.putfield 40, 3) := dk_181 0 40 (dk_at dksX7_next_1 16 rfl rfl)
theorem dX7_next_43 : decode cX7_next 43 = .ok (.aload_n 0, 1) := dk_42 (dk_at dksX7_next_1 19 rfl rfl)
theorem dX7_next_44 : decode cX7_next 44 = .ok (.iconst 0, 1) := dk_3 (dk_at dksX7_next_1 20 rfl rfl)
theorem dX7_next_45 : decode cX7_next 45 = .ok (.putfield 43, 3) := dk_181 0 43 (dk_at dksX7_next_1 21 rfl rfl)
theorem dX7_next_48 : decode cX7_next 48 = .ok (.aload_n 0, 1) := dk_42 (dk_at dksX7_next_2 0 rfl rfl)
theorem dX7_next_49 : decode cX7_next 49 = .ok (.getfield 29, 3) := dk_180 0 29 (dk_at dksX7_next_2 1 rfl rfl)
theorem dX7_next_52 : decode cX7_next 52 = .ok (.aload_n 0, 1) := dk_42 (dk_at dksX7_next_2 4 rfl rfl)
theorem dX7_next_53 : decode cX7_next 53 = .ok (.getfield 22, 3) := dk_180 0 22 (dk_at dksX7_next_2 5 rfl rfl)
theorem dX7_next_56 : decode cX7_next 56 = .ok (.if_icmp .ne 11, 3) := dk_160 0 11 (dk_at dksX7_next_2 8 rfl rfl)
theorem dX7_next_59 : decode cX7_next 59 = .ok (.aload_n 0, 1) := dk_42 (dk_at dksX7_next_2 11 rfl rfl)
theorem dX7_next_60 : decode cX7_next 60 = .ok (.iconst 0, 1) := dk_3 (dk_at dksX7_next_2 12 rfl rfl)
theorem dX7_next_61 : decode cX7_next 61 = .ok (.putfield 46, 3) := dk_181 0 46 (dk_at dksX7_next_2 13 rfl rfl)
theorem dX7_next_64 : decode cX7_next 64 = .ok (.goto 142, 3) := dk_167 0 142 (dk_at dksX7_next_2 16 rfl rfl)
theorem dX7_next_67 : decode cX7_next 67 = .ok (.aload_n 0, 1) := dk_42 (dk_at dksX7_next_2 19 rfl rfl)
theorem dX7_next_68 : decode cX7_next 68 = .ok (.bipush 97, 2) := dk_16 97 (dk_at dksX7_next_2 20 rfl rfl)
theorem dX7_next_70 : decode cX7_next 70 = .ok (.bipush 122, 2) := dk_16 122 (dk_at dksX7_next_2 22 rfl rfl)
theorem dX7_next_72 : decode cX7_next 72 = .ok (.invokevirtual 36, 3) := dk_182 0 36 (dk_at dksX7_next_3 0 rfl rfl)
theorem dX7_next_75 : decode cX7_next 75 = .ok (.ifCond .eq 32, 3) := dk_153 0 32 (dk_at dksX7_next_3 3 rfl rfl)
theorem dX7_next_78 : decode cX7_next 78 = .ok (.aload_n 0, 1) := dk_42 (dk_at dksX7_next_3 6 rfl rfl)
theorem dX7_next_79 : decode cX7_next 79 = .ok (.iconst 1, 1) := dk_4 (dk_at dksX7_next_3 7 rfl rfl)
theorem dX7_next_80 : decode cX7_next 80 = .ok (.putfield 46, 3) := dk_181 0 46 (dk_at dksX7_next_3 8 rfl rfl)
theorem dX7_next_83 : decode cX7_next 83 = .ok (.aload_n 0, 1) := dk_42 (dk_at dksX7_next_3 11 rfl rfl)
theorem dX7_next_84 : decode cX7_next 84 = .ok (.bipush 97, 2) := dk_16 97 (dk_at dksX7_next_3 12 rfl rfl)
theorem dX7_next_86 : decode cX7_next 86 = .ok (.bipush 122, 2) := dk_16 122 (dk_at dksX7_next_3 14 rfl rfl)
theorem dX7_next_88 : decode cX7_next 88 = .ok (.invokevirtual 36, 3) := dk_182 0 36 (dk_at dksX7_next_3 16 rfl rfl)
theorem dX7_next_91 : decode cX7_next 91 = .ok (.ifCond .eq 115, 3) := dk_153 0 115 (dk_at dksX7_next_3 19 rfl rfl)
theorem dX7_next_94 : decode cX7_next 94 = .ok (.aload_n 0, 1) := dk_42 (dk_at dksX7_next_3 22 rfl rfl)
theorem dX7_next_95 : decode cX7_next 95 = .ok (.dup, 1) := dk_89 (dk_at dksX7_next_3 23 rfl rfl)
theorem dX7_next_96 : decode cX7_next 96 = .ok (.getfield 29, 3) := dk_180 0 29 (dk_at dksX7_next_4 0 rfl rfl)
theorem dX7_next_99 : decode cX7_next 99 = .ok (.iconst 1, 1) := dk_4 (dk_at dksX7_next_4 3 rfl rfl)
theorem dX7_next_100 : decode cX7_next 100 = .ok (.iadd, 1) := dk_96 (dk_at dksX7_next_4 4 rfl rfl)
theorem dX7_next_101 : decode cX7_next 101 = .ok (.putfield 29, 3) := dk_181 0 29 (dk_at dksX7_next_4 5 rfl rfl)
theorem dX7_next_104 : decode cX7_next 104 = .ok (.goto (-21), 3) := dk_167 255 235 (dk_at dksX7_next_4 8 rfl rfl)
theorem dX7_next_107 : decode cX7_next 107 = .ok (.aload_n 0, 1) := dk_42 (dk_at dksX7_next_4 11 rfl rfl)
theorem dX7_next_108 : decode cX7_next 108 = .ok (.bipush 48, 2) := dk_16 48 (dk_at dksX7_next_4 12 rfl rfl)
theorem dX7_next_110 : decode cX7_next 110 = .ok (.bipush 57, 2) := dk_16 57 (dk_at dksX7_next_4 14 rfl rfl)
theorem dX7_next_112 : decode cX7_next 112 = .ok (.invokevirtual 36, 3) := dk_182 0 36 (dk_at dksX7_next_4 16 rfl rfl)
theorem dX7_next_115 : decode cX7_next 115 = .ok (.ifCond .eq 61, 3) := dk_153 0 61 (dk_at dksX7_next_4 19 rfl rfl)
theorem dX7_next_118 : decode cX7_next 118 = .ok (.aload_n 0, 1) := dk_42 (dk_at dksX7_next_4 22 rfl rfl)
theorem dX7_next_119 : decode cX7_next 119 = .ok (.iconst 2, 1) := dk_5 (dk_at dksX7_next_4 23 rfl rfl)
theorem dX7_next_120 : decode cX7_next 120 = .ok (.putfield 46, 3) := dk_181 0 46 (dk_at dksX7_next_5 0 rfl rfl)
theorem dX7_next_123 : decode cX7_next 123 = .ok (.aload_n 0, 1) := dk_42 (dk_at dksX7_next_5 3 rfl rfl)
theorem dX7_next_124 : decode cX7_next 124 = .ok (.bipush 48, 2) := dk_16 48 (dk_at dksX7_next_5 4 rfl rfl)
theorem dX7_next_126 : decode cX7_next 126 = .ok (.bipush 57, 2) := dk_16 57 (dk_at dksX7_next_5 6 rfl rfl)
theorem dX7_next_128 : decode cX7_next 128 = .ok (.invokevirtual 36, 3) := dk_182 0 36 (dk_at dksX7_next_5 8 rfl rfl)
theorem dX7_next_131 : decode cX7_next 131 = .ok (.ifCond .eq 75, 3) := dk_153 0 75 (dk_at dksX7_next_5 11 rfl rfl)
theorem dX7_next_134 : decode cX7_next 134 = .ok (.aload_n 0, 1) := dk_42 (dk_at dksX7_next_5 14 rfl rfl)
theorem dX7_next_135 : decode cX7_next 135 = .ok (.ldc 49, 2) := dk_18 49 (dk_at dksX7_next_5 15 rfl rfl)
theorem dX7_next_137 : decode cX7_next 137 = .ok (.bipush 10, 2) := dk_16 10 (dk_at dksX7_next_5 17 rfl rfl)
theorem dX7_next_139 : decode cX7_next 139 = .ok (.aload_n 0, 1) := dk_42 (dk_at dksX7_next_5 19 rfl rfl)
theorem dX7_next_140 : decode cX7_next 140 = .ok (.getfield 43, 3) := dk_180 0 43 (dk_at dksX7_next_5 20 rfl rfl)
theorem dX7_next_143 : decode cX7_next 143 = .ok (.imul, 1) := dk_104 (dk_at dksX7_next_5 23 rfl rfl)
theorem dX7_next_144 : decode cX7_next 144 = .ok (.aload_n 0, 1) := dk_42 (dk_at dksX7_next_6 0 rfl rfl)
theorem dX7_next_145 : decode cX7_next 145 = .ok (.getfield 18, 3) := dk_180 0 18 (dk_at dksX7_next_6 1 rfl rfl)
theorem dX7_next_148 : decode cX7_next 148 = .ok (.aload_n 0, 1) := dk_42 (dk_at dksX7_next_6 4 rfl rfl)
theorem dX7_next_149 : decode cX7_next 149 = .ok (.getfield 29, 3) := dk_180 0 29 (dk_at dksX7_next_6 5 rfl rfl)
theorem dX7_next_152 : decode cX7_next 152 = .ok (.baload, 1) := dk_51 (dk_at dksX7_next_6 8 rfl rfl)
theorem dX7_next_153 : decode cX7_next 153 = .ok (.iadd, 1) := dk_96 (dk_at dksX7_next_6 9 rfl rfl)
theorem dX7_next_154 : decode cX7_next 154 = .ok (.bipush 48, 2) := dk_16 48 (dk_at dksX7_next_6 10 rfl rfl)
theorem dX7_next_156 : decode cX7_next 156 = .ok (.isub, 1) := dk_100 (dk_at dksX7_next_6 12 rfl rfl)
theorem dX7_next_157 : decode cX7_next 157 = .ok (.invokestatic 50, 3) := dk_184 0 50 (dk_at dksX7_next_6 13 rfl rfl)
theorem dX7_next_160 : decode cX7_next 160 = .ok (.putfield 43, 3) := dk_181 0 43 (dk_at dksX7_next_6 16 rfl rfl)
theorem dX7_next_163 : decode cX7_next 163 = .ok (.aload_n 0, 1) := dk_42 (dk_at dksX7_next_6 19 rfl rfl)
theorem dX7_next_164 : decode cX7_next 164 = .ok (.dup, 1) := dk_89 (dk_at dksX7_next_6 20 rfl rfl)
theorem dX7_next_165 : decode cX7_next 165 = .ok (.getfield 29, 3) := dk_180 0 29 (dk_at dksX7_next_6 21 rfl rfl)
theorem dX7_next_168 : decode cX7_next 168 = .ok (.iconst 1, 1) := dk_4 (dk_at dksX7_next_7 0 rfl rfl)
theorem dX7_next_169 : decode cX7_next 169 = .ok (.iadd, 1) := dk_96 (dk_at dksX7_next_7 1 rfl rfl)
theorem dX7_next_170 : decode cX7_next 170 = .ok (.putfield 29, 3) := dk_181 0 29 (dk_at dksX7_next_7 2 rfl rfl)
theorem dX7_next_173 : decode cX7_next 173 = .ok (.goto (-50), 3) := dk_167 255 206 (dk_at dksX7_next_7 5 rfl rfl)
theorem dX7_next_176 : decode cX7_next 176 = .ok (.aload_n 0, 1) := dk_42 (dk_at dksX7_next_7 8 rfl rfl)
theorem dX7_next_177 : decode cX7_next 177 = .ok (.aload_n 0, 1) := dk_42 (dk_at dksX7_next_7 9 rfl rfl)
theorem dX7_next_178 : decode cX7_next 178 = .ok (.bipush 59, 2) := dk_16 59 (dk_at dksX7_next_7 10 rfl rfl)
theorem dX7_next_180 : decode cX7_next 180 = .ok (.bipush 59, 2) := dk_16 59 (dk_at dksX7_next_7 12 rfl rfl)
theorem dX7_next_182 : decode cX7_next 182 = .ok (.invokevirtual 36, 3) := dk_182 0 36 (dk_at dksX7_next_7 14 rfl rfl)
theorem dX7_next_185 : decode cX7_next 185 = .ok (.ifCond .eq 7, 3) := dk_153 0 7 (dk_at dksX7_next_7 17 rfl rfl)
theorem dX7_next_188 : decode cX7_next 188 = .ok (.iconst 3, 1) := dk_6 (dk_at dksX7_next_7 20 rfl rfl)
theorem dX7_next_189 : decode cX7_next 189 = .ok (.goto 4, 3) := dk_167 0 4 (dk_at dksX7_next_7 21 rfl rfl)
theorem dX7_next_192 : decode cX7_next 192 = .ok (.iconst 4, 1) := dk_7 (dk_at dksX7_next_8 0 rfl rfl)
theorem dX7_next_193 : decode cX7_next 193 = .ok (.putfield 46, 3) := dk_181 0 46 (dk_at dksX7_next_8 1 rfl rfl)
theorem dX7_next_196 : decode cX7_next 196 = .ok (.aload_n 0, 1) := dk_42 (dk_at dksX7_next_8 4 rfl rfl)
theorem dX7_next_197 : decode cX7_next 197 = .ok (.dup, 1) := dk_89 (dk_at dksX7_next_8 5 rfl rfl)
theorem dX7_next_198 : decode cX7_next 198 = .ok (.getfield 29, 3) := dk_180 0 29 (dk_at dksX7_next_8 6 rfl rfl)
theorem dX7_next_201 : decode cX7_next 201 = .ok (.iconst 1, 1) := dk_4 (dk_at dksX7_next_8 9 rfl rfl)
theorem dX7_next_202 : decode cX7_next 202 = .ok (.iadd, 1) := dk_96 (dk_at dksX7_next_8 10 rfl rfl)
theorem dX7_next_203 : decode cX7_next 203 = .ok (.putfield 29, 3) := dk_181 0 29 (dk_at dksX7_next_8 11 rfl rfl)
theorem dX7_next_206 : decode cX7_next 206 = .ok (.return_, 1) := dk_177 (dk_at dksX7_next_8 14 rfl rfl)
abbrev cX7_isAt : ByteArray := prog_6_method_2_code
def yX7_isAt : MethodName := ⟨RX7, "isAt", "(II)Z"⟩
def dkwX7_isAt_1 : List UInt8 := [133, 184, 0, 32, 153, 0, 7, 4, 167, 0, 4, 3, 172]
abbrev dktX7_isAt_1 : List UInt8 := dkwX7_isAt_1 ++ []
def dkwX7_isAt_0 : List UInt8 := [42, 180, 0, 29, 42, 180, 0, 22, 162, 0, 27, 42, 180, 0, 18, 42, 180, 0, 29, 51, 133, 27, 133, 28]
abbrev dktX7_isAt_0 : List UInt8 := dkwX7_isAt_0 ++ dktX7_isAt_1
theorem dksX7_isAt_0 : cX7_isAt.data.toList.drop 0 = dktX7_isAt_0 := by decide +kernel
theorem dksX7_isAt_1 : cX7_isAt.data.toList.drop 24 = dktX7_isAt_1 := dk_seg dksX7_isAt_0 24 rfl rfl
theorem dX7_isAt_0 : decode cX7_isAt 0 = .ok (.aload_n 0, 1) := dk_42 (dk_at dksX7_isAt_0 0 rfl rfl)
theorem dX7_isAt_1 : decode cX7_isAt 1 = .ok (.getfield 29, 3) := dk_180 0 29 (dk_at dksX7_isAt_0 1 rfl rfl)
theorem dX7_isAt_4 : decode cX7_isAt 4 = .ok (.aload_n 0, 1) := dk_42 (dk_at dksX7_isAt_0 4 rfl rfl)
theorem dX7_isAt_5 : decode cX7_isAt 5 = .ok (.getfield 22, 3) := dk_180 0 22 (dk_at dksX7_isAt_0 5 rfl rfl)
theorem dX7_isAt_8 : decode cX7_isAt 8 = .ok (.if_icmp .ge 27, 3) := dk_162 0 27 (dk_at dksX7_isAt_0 8 rfl rfl)
theorem dX7_isAt_11 : decode cX7_isAt 11 = .ok (.aload_n 0, 1) := dk_42 (dk_at dksX7_isAt_0 11 rfl rfl)
theorem dX7_isAt_12 : decode cX7_isAt 12 = .ok (.getfield 18, 3) := dk_180 0 18 (dk_at dksX7_isAt_0 12 rfl rfl)
theorem dX7_isAt_15 : decode cX7_isAt 15 = .ok (.aload_n 0, 1) := dk_42 (dk_at dksX7_isAt_0 15 rfl rfl)
theorem dX7_isAt_16 : decode cX7_isAt 16 = .ok (.getfield 29, 3) := dk_180 0 29 (dk_at dksX7_isAt_0 16 rfl rfl)
theorem dX7_isAt_19 : decode cX7_isAt 19 = .ok (.baload, 1) := dk_51 (dk_at dksX7_isAt_0 19 rfl rfl)
theorem dX7_isAt_20 : decode cX7_isAt 20 = .ok (.i2l, 1) := dk_133 (dk_at dksX7_isAt_0 20 rfl rfl)
theorem dX7_isAt_21 : decode cX7_isAt 21 = .ok (.iload_n 1, 1) := dk_27 (dk_at dksX7_isAt_0 21 rfl rfl)
theorem dX7_isAt_22 : decode cX7_isAt 22 = .ok (.i2l, 1) := dk_133 (dk_at dksX7_isAt_0 22 rfl rfl)
theorem dX7_isAt_23 : decode cX7_isAt 23 = .ok (.iload_n 2, 1) := dk_28 (dk_at dksX7_isAt_0 23 rfl rfl)
theorem dX7_isAt_24 : decode cX7_isAt 24 = .ok (.i2l, 1) := dk_133 (dk_at dksX7_isAt_1 0 rfl rfl)
theorem dX7_isAt_25 : decode cX7_isAt 25 = .ok (.invokestatic 32, 3) := dk_184 0 32 (dk_at dksX7_isAt_1 1 rfl rfl)
theorem dX7_isAt_28 : decode cX7_isAt 28 = .ok (.ifCond .eq 7, 3) := dk_153 0 7 (dk_at dksX7_isAt_1 4 rfl rfl)
theorem dX7_isAt_31 : decode cX7_isAt 31 = .ok (.iconst 1, 1) := dk_4 (dk_at dksX7_isAt_1 7 rfl rfl)
theorem dX7_isAt_32 : decode cX7_isAt 32 = .ok (.goto 4, 3) := dk_167 0 4 (dk_at dksX7_isAt_1 8 rfl rfl)
theorem dX7_isAt_35 : decode cX7_isAt 35 = .ok (.iconst 0, 1) := dk_3 (dk_at dksX7_isAt_1 11 rfl rfl)
theorem dX7_isAt_36 : decode cX7_isAt 36 = .ok (.ireturn, 1) := dk_172 (dk_at dksX7_isAt_1 12 rfl rfl)
abbrev cX7_reads : ByteArray := prog_6_method_15_code
def yX7_reads : MethodName := ⟨RX7, "reads", "()LWidowRoads$Colony;"⟩
def dkwX7_reads_2 : List UInt8 := [180, 0, 12, 89, 180, 0, 178, 4, 96, 181, 0, 178, 167, 255, 197, 42, 180, 0, 12, 176]
abbrev dktX7_reads_2 : List UInt8 := dkwX7_reads_2 ++ []
def dkwX7_reads_1 : List UInt8 := [42, 182, 0, 184, 42, 180, 0, 46, 6, 159, 0, 9, 42, 4, 182, 0, 75, 191, 42, 182, 0, 26, 42]
abbrev dktX7_reads_1 : List UInt8 := dkwX7_reads_1 ++ dktX7_reads_2
def dkwX7_reads_0 : List UInt8 := [42, 180, 0, 46, 153, 0, 58, 42, 180, 0, 12, 180, 0, 178, 154, 0, 10, 42, 182, 0, 181, 167, 0, 7]
abbrev dktX7_reads_0 : List UInt8 := dkwX7_reads_0 ++ dktX7_reads_1
theorem dksX7_reads_0 : cX7_reads.data.toList.drop 0 = dktX7_reads_0 := by decide +kernel
theorem dksX7_reads_1 : cX7_reads.data.toList.drop 24 = dktX7_reads_1 := dk_seg dksX7_reads_0 24 rfl rfl
theorem dksX7_reads_2 : cX7_reads.data.toList.drop 47 = dktX7_reads_2 := dk_seg dksX7_reads_1 23 rfl rfl
theorem dX7_reads_0 : decode cX7_reads 0 = .ok (.aload_n 0, 1) := dk_42 (dk_at dksX7_reads_0 0 rfl rfl)
theorem dX7_reads_1 : decode cX7_reads 1 = .ok (.getfield 46, 3) := dk_180 0 46 (dk_at dksX7_reads_0 1 rfl rfl)
theorem dX7_reads_4 : decode cX7_reads 4 = .ok (.ifCond .eq 58, 3) := dk_153 0 58 (dk_at dksX7_reads_0 4 rfl rfl)
theorem dX7_reads_7 : decode cX7_reads 7 = .ok (.aload_n 0, 1) := dk_42 (dk_at dksX7_reads_0 7 rfl rfl)
theorem dX7_reads_8 : decode cX7_reads 8 = .ok (.getfield 12, 3) := dk_180 0 12 (dk_at dksX7_reads_0 8 rfl rfl)
theorem dX7_reads_11 : decode cX7_reads 11 = .ok (.getfield 178, 3) := dk_180 0 178 (dk_at dksX7_reads_0 11 rfl rfl)
theorem dX7_reads_14 : decode cX7_reads 14 = .ok (.ifCond .ne 10, 3) := dk_154 0 10 (dk_at dksX7_reads_0 14 rfl rfl)
theorem dX7_reads_17 : decode cX7_reads 17 = .ok (.aload_n 0, 1) := dk_42 (dk_at dksX7_reads_0 17 rfl rfl)
theorem dX7_reads_18 : decode cX7_reads 18 = .ok (.invokevirtual 181, 3) := dk_182 0 181 (dk_at dksX7_reads_0 18 rfl rfl)
theorem dX7_reads_21 : decode cX7_reads 21 = .ok (.goto 7, 3) := dk_167 0 7 (dk_at dksX7_reads_0 21 rfl rfl)
theorem dX7_reads_24 : decode cX7_reads 24 = .ok (.aload_n 0, 1) := dk_42 (dk_at dksX7_reads_1 0 rfl rfl)
theorem dX7_reads_25 : decode cX7_reads 25 = .ok (.invokevirtual 184, 3) := dk_182 0 184 (dk_at dksX7_reads_1 1 rfl rfl)
theorem dX7_reads_28 : decode cX7_reads 28 = .ok (.aload_n 0, 1) := dk_42 (dk_at dksX7_reads_1 4 rfl rfl)
theorem dX7_reads_29 : decode cX7_reads 29 = .ok (.getfield 46, 3) := dk_180 0 46 (dk_at dksX7_reads_1 5 rfl rfl)
theorem dX7_reads_32 : decode cX7_reads 32 = .ok (.iconst 3, 1) := dk_6 (dk_at dksX7_reads_1 8 rfl rfl)
theorem dX7_reads_33 : decode cX7_reads 33 = .ok (.if_icmp .eq 9, 3) := dk_159 0 9 (dk_at dksX7_reads_1 9 rfl rfl)
theorem dX7_reads_36 : decode cX7_reads 36 = .ok (.aload_n 0, 1) := dk_42 (dk_at dksX7_reads_1 12 rfl rfl)
theorem dX7_reads_37 : decode cX7_reads 37 = .ok (.iconst 1, 1) := dk_4 (dk_at dksX7_reads_1 13 rfl rfl)
theorem dX7_reads_38 : decode cX7_reads 38 = .ok (.invokevirtual 75, 3) := dk_182 0 75 (dk_at dksX7_reads_1 14 rfl rfl)
theorem dX7_reads_41 : decode cX7_reads 41 = .ok (.athrow, 1) := dk_191 (dk_at dksX7_reads_1 17 rfl rfl)
theorem dX7_reads_42 : decode cX7_reads 42 = .ok (.aload_n 0, 1) := dk_42 (dk_at dksX7_reads_1 18 rfl rfl)
theorem dX7_reads_43 : decode cX7_reads 43 = .ok (.invokevirtual 26, 3) := dk_182 0 26 (dk_at dksX7_reads_1 19 rfl rfl)
theorem dX7_reads_46 : decode cX7_reads 46 = .ok (.aload_n 0, 1) := dk_42 (dk_at dksX7_reads_1 22 rfl rfl)
theorem dX7_reads_47 : decode cX7_reads 47 = .ok (.getfield 12, 3) := dk_180 0 12 (dk_at dksX7_reads_2 0 rfl rfl)
theorem dX7_reads_50 : decode cX7_reads 50 = .ok (.dup, 1) := dk_89 (dk_at dksX7_reads_2 3 rfl rfl)
theorem dX7_reads_51 : decode cX7_reads 51 = .ok (.getfield 178, 3) := dk_180 0 178 (dk_at dksX7_reads_2 4 rfl rfl)
theorem dX7_reads_54 : decode cX7_reads 54 = .ok (.iconst 1, 1) := dk_4 (dk_at dksX7_reads_2 7 rfl rfl)
theorem dX7_reads_55 : decode cX7_reads 55 = .ok (.iadd, 1) := dk_96 (dk_at dksX7_reads_2 8 rfl rfl)
theorem dX7_reads_56 : decode cX7_reads 56 = .ok (.putfield 178, 3) := dk_181 0 178 (dk_at dksX7_reads_2 9 rfl rfl)
theorem dX7_reads_59 : decode cX7_reads 59 = .ok (.goto (-59), 3) := dk_167 255 197 (dk_at dksX7_reads_2 12 rfl rfl)
theorem dX7_reads_62 : decode cX7_reads 62 = .ok (.aload_n 0, 1) := dk_42 (dk_at dksX7_reads_2 15 rfl rfl)
theorem dX7_reads_63 : decode cX7_reads 63 = .ok (.getfield 12, 3) := dk_180 0 12 (dk_at dksX7_reads_2 16 rfl rfl)
theorem dX7_reads_66 : decode cX7_reads 66 = .ok (.areturn, 1) := dk_176 (dk_at dksX7_reads_2 19 rfl rfl)
abbrev cX7_colonyLine : ByteArray := prog_6_method_14_code
def yX7_colonyLine : MethodName := ⟨RX7, "colonyLine", "()V"⟩
def dkwX7_colonyLine_4 : List UInt8 := [177]
abbrev dktX7_colonyLine_4 : List UInt8 := dkwX7_colonyLine_4 ++ []
def dkwX7_colonyLine_3 : List UInt8 := [16, 8, 182, 0, 121, 181, 0, 85, 42, 180, 0, 12, 42, 18, 177, 5, 16, 8, 182, 0, 121, 181, 0, 88]
abbrev dktX7_colonyLine_3 : List UInt8 := dkwX7_colonyLine_3 ++ dktX7_colonyLine_4
def dkwX7_colonyLine_2 : List UInt8 := [180, 0, 12, 42, 18, 172, 3, 16, 10, 182, 0, 121, 181, 0, 174, 42, 180, 0, 12, 42, 18, 176, 5]
abbrev dktX7_colonyLine_2 : List UInt8 := dkwX7_colonyLine_2 ++ dktX7_colonyLine_3
def dkwX7_colonyLine_1 : List UInt8 := [16, 12, 182, 0, 121, 181, 0, 166, 42, 180, 0, 12, 42, 18, 168, 3, 6, 182, 0, 121, 181, 0, 170, 42]
abbrev dktX7_colonyLine_1 : List UInt8 := dkwX7_colonyLine_1 ++ dktX7_colonyLine_2
def dkwX7_colonyLine_0 : List UInt8 := [42, 18, 162, 182, 0, 79, 154, 0, 9, 42, 4, 182, 0, 75, 191, 42, 180, 0, 12, 42, 18, 164, 4]
abbrev dktX7_colonyLine_0 : List UInt8 := dkwX7_colonyLine_0 ++ dktX7_colonyLine_1
theorem dksX7_colonyLine_0 : cX7_colonyLine.data.toList.drop 0 = dktX7_colonyLine_0 := by decide +kernel
theorem dksX7_colonyLine_1 : cX7_colonyLine.data.toList.drop 23 = dktX7_colonyLine_1 := dk_seg dksX7_colonyLine_0 23 rfl rfl
theorem dksX7_colonyLine_2 : cX7_colonyLine.data.toList.drop 47 = dktX7_colonyLine_2 := dk_seg dksX7_colonyLine_1 24 rfl rfl
theorem dksX7_colonyLine_3 : cX7_colonyLine.data.toList.drop 70 = dktX7_colonyLine_3 := dk_seg dksX7_colonyLine_2 23 rfl rfl
theorem dksX7_colonyLine_4 : cX7_colonyLine.data.toList.drop 94 = dktX7_colonyLine_4 := dk_seg dksX7_colonyLine_3 24 rfl rfl
theorem dX7_colonyLine_0 : decode cX7_colonyLine 0 = .ok (.aload_n 0, 1) := dk_42 (dk_at dksX7_colonyLine_0 0 rfl rfl)
theorem dX7_colonyLine_1 : decode cX7_colonyLine 1 = .ok (.ldc 162, 2) := dk_18 162 (dk_at dksX7_colonyLine_0 1 rfl rfl)
theorem dX7_colonyLine_3 : decode cX7_colonyLine 3 = .ok (.invokevirtual 79, 3) := dk_182 0 79 (dk_at dksX7_colonyLine_0 3 rfl rfl)
theorem dX7_colonyLine_6 : decode cX7_colonyLine 6 = .ok (.ifCond .ne 9, 3) := dk_154 0 9 (dk_at dksX7_colonyLine_0 6 rfl rfl)
theorem dX7_colonyLine_9 : decode cX7_colonyLine 9 = .ok (.aload_n 0, 1) := dk_42 (dk_at dksX7_colonyLine_0 9 rfl rfl)
theorem dX7_colonyLine_10 : decode cX7_colonyLine 10 = .ok (.iconst 1, 1) := dk_4 (dk_at dksX7_colonyLine_0 10 rfl rfl)
theorem dX7_colonyLine_11 : decode cX7_colonyLine 11 = .ok (.invokevirtual 75, 3) := dk_182 0 75 (dk_at dksX7_colonyLine_0 11 rfl rfl)
theorem dX7_colonyLine_14 : decode cX7_colonyLine 14 = .ok (.athrow, 1) := dk_191 (dk_at dksX7_colonyLine_0 14 rfl rfl)
theorem dX7_colonyLine_15 : decode cX7_colonyLine 15 = .ok (.aload_n 0, 1) := dk_42 (dk_at dksX7_colonyLine_0 15 rfl rfl)
theorem dX7_colonyLine_16 : decode cX7_colonyLine 16 = .ok (.getfield 12, 3) := dk_180 0 12 (dk_at dksX7_colonyLine_0 16 rfl rfl)
theorem dX7_colonyLine_19 : decode cX7_colonyLine 19 = .ok (.aload_n 0, 1) := dk_42 (dk_at dksX7_colonyLine_0 19 rfl rfl)
theorem dX7_colonyLine_20 : decode cX7_colonyLine 20 = .ok (.ldc 164, 2) := dk_18 164 (dk_at dksX7_colonyLine_0 20 rfl rfl)
theorem dX7_colonyLine_22 : decode cX7_colonyLine 22 = .ok (.iconst 1, 1) := dk_4 (dk_at dksX7_colonyLine_0 22 rfl rfl)
theorem dX7_colonyLine_23 : decode cX7_colonyLine 23 = .ok (.bipush 12, 2) := dk_16 12 (dk_at dksX7_colonyLine_1 0 rfl rfl)
theorem dX7_colonyLine_25 : decode cX7_colonyLine 25 = .ok (.invokevirtual 121, 3) := dk_182 0 121 (dk_at dksX7_colonyLine_1 2 rfl rfl)
theorem dX7_colonyLine_28 : decode cX7_colonyLine 28 = .ok (.putfield 166, 3) := dk_181 0 166 (dk_at dksX7_colonyLine_1 5 rfl rfl)
theorem dX7_colonyLine_31 : decode cX7_colonyLine 31 = .ok (.aload_n 0, 1) := dk_42 (dk_at dksX7_colonyLine_1 8 rfl rfl)
theorem dX7_colonyLine_32 : decode cX7_colonyLine 32 = .ok (.getfield 12, 3) := dk_180 0 12 (dk_at dksX7_colonyLine_1 9 rfl rfl)
theorem dX7_colonyLine_35 : decode cX7_colonyLine 35 = .ok (.aload_n 0, 1) := dk_42 (dk_at dksX7_colonyLine_1 12 rfl rfl)
theorem dX7_colonyLine_36 : decode cX7_colonyLine 36 = .ok (.ldc 168, 2) := dk_18 168 (dk_at dksX7_colonyLine_1 13 rfl rfl)
theorem dX7_colonyLine_38 : decode cX7_colonyLine 38 = .ok (.iconst 0, 1) := dk_3 (dk_at dksX7_colonyLine_1 15 rfl rfl)
theorem dX7_colonyLine_39 : decode cX7_colonyLine 39 = .ok (.iconst 3, 1) := dk_6 (dk_at dksX7_colonyLine_1 16 rfl rfl)
theorem dX7_colonyLine_40 : decode cX7_colonyLine 40 = .ok (.invokevirtual 121, 3) := dk_182 0 121 (dk_at dksX7_colonyLine_1 17 rfl rfl)
theorem dX7_colonyLine_43 : decode cX7_colonyLine 43 = .ok (.putfield 170, 3) := dk_181 0 170 (dk_at dksX7_colonyLine_1 20 rfl rfl)
theorem dX7_colonyLine_46 : decode cX7_colonyLine 46 = .ok (.aload_n 0, 1) := dk_42 (dk_at dksX7_colonyLine_1 23 rfl rfl)
theorem dX7_colonyLine_47 : decode cX7_colonyLine 47 = .ok (.getfield 12, 3) := dk_180 0 12 (dk_at dksX7_colonyLine_2 0 rfl rfl)
theorem dX7_colonyLine_50 : decode cX7_colonyLine 50 = .ok (.aload_n 0, 1) := dk_42 (dk_at dksX7_colonyLine_2 3 rfl rfl)
theorem dX7_colonyLine_51 : decode cX7_colonyLine 51 = .ok (.ldc 172, 2) := dk_18 172 (dk_at dksX7_colonyLine_2 4 rfl rfl)
theorem dX7_colonyLine_53 : decode cX7_colonyLine 53 = .ok (.iconst 0, 1) := dk_3 (dk_at dksX7_colonyLine_2 6 rfl rfl)
theorem dX7_colonyLine_54 : decode cX7_colonyLine 54 = .ok (.bipush 10, 2) := dk_16 10 (dk_at dksX7_colonyLine_2 7 rfl rfl)
theorem dX7_colonyLine_56 : decode cX7_colonyLine 56 = .ok (.invokevirtual 121, 3) := dk_182 0 121 (dk_at dksX7_colonyLine_2 9 rfl rfl)
theorem dX7_colonyLine_59 : decode cX7_colonyLine 59 = .ok (.putfield 174, 3) := dk_181 0 174 (dk_at dksX7_colonyLine_2 12 rfl rfl)
theorem dX7_colonyLine_62 : decode cX7_colonyLine 62 = .ok (.aload_n 0, 1) := dk_42 (dk_at dksX7_colonyLine_2 15 rfl rfl)
theorem dX7_colonyLine_63 : decode cX7_colonyLine 63 = .ok (.getfield 12, 3) := dk_180 0 12 (dk_at dksX7_colonyLine_2 16 rfl rfl)
theorem dX7_colonyLine_66 : decode cX7_colonyLine 66 = .ok (.aload_n 0, 1) := dk_42 (dk_at dksX7_colonyLine_2 19 rfl rfl)
theorem dX7_colonyLine_67 : decode cX7_colonyLine 67 = .ok (.ldc 176, 2) := dk_18 176 (dk_at dksX7_colonyLine_2 20 rfl rfl)
theorem dX7_colonyLine_69 : decode cX7_colonyLine 69 = .ok (.iconst 2, 1) := dk_5 (dk_at dksX7_colonyLine_2 22 rfl rfl)
theorem dX7_colonyLine_70 : decode cX7_colonyLine 70 = .ok (.bipush 8, 2) := dk_16 8 (dk_at dksX7_colonyLine_3 0 rfl rfl)
theorem dX7_colonyLine_72 : decode cX7_colonyLine 72 = .ok (.invokevirtual 121, 3) := dk_182 0 121 (dk_at dksX7_colonyLine_3 2 rfl rfl)
theorem dX7_colonyLine_75 : decode cX7_colonyLine 75 = .ok (.putfield 85, 3) := dk_181 0 85 (dk_at dksX7_colonyLine_3 5 rfl rfl)
theorem dX7_colonyLine_78 : decode cX7_colonyLine 78 = .ok (.aload_n 0, 1) := dk_42 (dk_at dksX7_colonyLine_3 8 rfl rfl)
theorem dX7_colonyLine_79 : decode cX7_colonyLine 79 = .ok (.getfield 12, 3) := dk_180 0 12 (dk_at dksX7_colonyLine_3 9 rfl rfl)
theorem dX7_colonyLine_82 : decode cX7_colonyLine 82 = .ok (.aload_n 0, 1) := dk_42 (dk_at dksX7_colonyLine_3 12 rfl rfl)
theorem dX7_colonyLine_83 : decode cX7_colonyLine 83 = .ok (.ldc 177, 2) := dk_18 177 (dk_at dksX7_colonyLine_3 13 rfl rfl)
theorem dX7_colonyLine_85 : decode cX7_colonyLine 85 = .ok (.iconst 2, 1) := dk_5 (dk_at dksX7_colonyLine_3 15 rfl rfl)
theorem dX7_colonyLine_86 : decode cX7_colonyLine 86 = .ok (.bipush 8, 2) := dk_16 8 (dk_at dksX7_colonyLine_3 16 rfl rfl)
theorem dX7_colonyLine_88 : decode cX7_colonyLine 88 = .ok (.invokevirtual 121, 3) := dk_182 0 121 (dk_at dksX7_colonyLine_3 18 rfl rfl)
theorem dX7_colonyLine_91 : decode cX7_colonyLine 91 = .ok (.putfield 88, 3) := dk_181 0 88 (dk_at dksX7_colonyLine_3 21 rfl rfl)
theorem dX7_colonyLine_94 : decode cX7_colonyLine 94 = .ok (.return_, 1) := dk_177 (dk_at dksX7_colonyLine_4 0 rfl rfl)
abbrev cX7_takes : ByteArray := prog_6_method_6_code
def yX7_takes : MethodName := ⟨RX7, "takes", "(Ljava/lang/String;)Z"⟩
def dkwX7_takes_0 : List UInt8 := [42, 43, 182, 0, 71, 61, 28, 153, 0, 7, 42, 182, 0, 26, 28, 172]
abbrev dktX7_takes_0 : List UInt8 := dkwX7_takes_0 ++ []
theorem dksX7_takes_0 : cX7_takes.data.toList.drop 0 = dktX7_takes_0 := by decide +kernel
theorem dX7_takes_0 : decode cX7_takes 0 = .ok (.aload_n 0, 1) := dk_42 (dk_at dksX7_takes_0 0 rfl rfl)
theorem dX7_takes_1 : decode cX7_takes 1 = .ok (.aload_n 1, 1) := dk_43 (dk_at dksX7_takes_0 1 rfl rfl)
theorem dX7_takes_2 : decode cX7_takes 2 = .ok (.invokevirtual 71, 3) := dk_182 0 71 (dk_at dksX7_takes_0 2 rfl rfl)
theorem dX7_takes_5 : decode cX7_takes 5 = .ok (.istore_n 2, 1) := dk_61 (dk_at dksX7_takes_0 5 rfl rfl)
theorem dX7_takes_6 : decode cX7_takes 6 = .ok (.iload_n 2, 1) := dk_28 (dk_at dksX7_takes_0 6 rfl rfl)
theorem dX7_takes_7 : decode cX7_takes 7 = .ok (.ifCond .eq 7, 3) := dk_153 0 7 (dk_at dksX7_takes_0 7 rfl rfl)
theorem dX7_takes_10 : decode cX7_takes 10 = .ok (.aload_n 0, 1) := dk_42 (dk_at dksX7_takes_0 10 rfl rfl)
theorem dX7_takes_11 : decode cX7_takes 11 = .ok (.invokevirtual 26, 3) := dk_182 0 26 (dk_at dksX7_takes_0 11 rfl rfl)
theorem dX7_takes_14 : decode cX7_takes 14 = .ok (.iload_n 2, 1) := dk_28 (dk_at dksX7_takes_0 14 rfl rfl)
theorem dX7_takes_15 : decode cX7_takes 15 = .ok (.ireturn, 1) := dk_172 (dk_at dksX7_takes_0 15 rfl rfl)
abbrev cX7_is : ByteArray := prog_6_method_5_code
def yX7_is : MethodName := ⟨RX7, "is", "(Ljava/lang/String;)Z"⟩
def dkwX7_is_2 : List UInt8 := [28, 182, 0, 67, 159, 0, 5, 3, 172, 132, 2, 1, 167, 255, 224, 4, 172]
abbrev dktX7_is_2 : List UInt8 := dkwX7_is_2 ++ []
def dkwX7_is_1 : List UInt8 := [3, 172, 3, 61, 28, 43, 182, 0, 61, 162, 0, 30, 42, 180, 0, 18, 42, 180, 0, 40, 28, 96, 51, 43]
abbrev dktX7_is_1 : List UInt8 := dkwX7_is_1 ++ dktX7_is_2
def dkwX7_is_0 : List UInt8 := [42, 180, 0, 46, 4, 160, 0, 19, 42, 180, 0, 29, 42, 180, 0, 40, 100, 43, 182, 0, 61, 159, 0, 5]
abbrev dktX7_is_0 : List UInt8 := dkwX7_is_0 ++ dktX7_is_1
theorem dksX7_is_0 : cX7_is.data.toList.drop 0 = dktX7_is_0 := by decide +kernel
theorem dksX7_is_1 : cX7_is.data.toList.drop 24 = dktX7_is_1 := dk_seg dksX7_is_0 24 rfl rfl
theorem dksX7_is_2 : cX7_is.data.toList.drop 48 = dktX7_is_2 := dk_seg dksX7_is_1 24 rfl rfl
theorem dX7_is_0 : decode cX7_is 0 = .ok (.aload_n 0, 1) := dk_42 (dk_at dksX7_is_0 0 rfl rfl)
theorem dX7_is_1 : decode cX7_is 1 = .ok (.getfield 46, 3) := dk_180 0 46 (dk_at dksX7_is_0 1 rfl rfl)
theorem dX7_is_4 : decode cX7_is 4 = .ok (.iconst 1, 1) := dk_4 (dk_at dksX7_is_0 4 rfl rfl)
theorem dX7_is_5 : decode cX7_is 5 = .ok (.if_icmp .ne 19, 3) := dk_160 0 19 (dk_at dksX7_is_0 5 rfl rfl)
theorem dX7_is_8 : decode cX7_is 8 = .ok (.aload_n 0, 1) := dk_42 (dk_at dksX7_is_0 8 rfl rfl)
theorem dX7_is_9 : decode cX7_is 9 = .ok (.getfield 29, 3) := dk_180 0 29 (dk_at dksX7_is_0 9 rfl rfl)
theorem dX7_is_12 : decode cX7_is 12 = .ok (.aload_n 0, 1) := dk_42 (dk_at dksX7_is_0 12 rfl rfl)
theorem dX7_is_13 : decode cX7_is 13 = .ok (.getfield 40, 3) := dk_180 0 40 (dk_at dksX7_is_0 13 rfl rfl)
theorem dX7_is_16 : decode cX7_is 16 = .ok (.isub, 1) := dk_100 (dk_at dksX7_is_0 16 rfl rfl)
theorem dX7_is_17 : decode cX7_is 17 = .ok (.aload_n 1, 1) := dk_43 (dk_at dksX7_is_0 17 rfl rfl)
theorem dX7_is_18 : decode cX7_is 18 = .ok (.invokevirtual 61, 3) := dk_182 0 61 (dk_at dksX7_is_0 18 rfl rfl)
theorem dX7_is_21 : decode cX7_is 21 = .ok (.if_icmp .eq 5, 3) := dk_159 0 5 (dk_at dksX7_is_0 21 rfl rfl)
theorem dX7_is_24 : decode cX7_is 24 = .ok (.iconst 0, 1) := dk_3 (dk_at dksX7_is_1 0 rfl rfl)
theorem dX7_is_25 : decode cX7_is 25 = .ok (.ireturn, 1) := dk_172 (dk_at dksX7_is_1 1 rfl rfl)
theorem dX7_is_26 : decode cX7_is 26 = .ok (.iconst 0, 1) := dk_3 (dk_at dksX7_is_1 2 rfl rfl)
theorem dX7_is_27 : decode cX7_is 27 = .ok (.istore_n 2, 1) := dk_61 (dk_at dksX7_is_1 3 rfl rfl)
theorem dX7_is_28 : decode cX7_is 28 = .ok (.iload_n 2, 1) := dk_28 (dk_at dksX7_is_1 4 rfl rfl)
theorem dX7_is_29 : decode cX7_is 29 = .ok (.aload_n 1, 1) := dk_43 (dk_at dksX7_is_1 5 rfl rfl)
theorem dX7_is_30 : decode cX7_is 30 = .ok (.invokevirtual 61, 3) := dk_182 0 61 (dk_at dksX7_is_1 6 rfl rfl)
theorem dX7_is_33 : decode cX7_is 33 = .ok (.if_icmp .ge 30, 3) := dk_162 0 30 (dk_at dksX7_is_1 9 rfl rfl)
theorem dX7_is_36 : decode cX7_is 36 = .ok (.aload_n 0, 1) := dk_42 (dk_at dksX7_is_1 12 rfl rfl)
theorem dX7_is_37 : decode cX7_is 37 = .ok (.getfield 18, 3) := dk_180 0 18 (dk_at dksX7_is_1 13 rfl rfl)
theorem dX7_is_40 : decode cX7_is 40 = .ok (.aload_n 0, 1) := dk_42 (dk_at dksX7_is_1 16 rfl rfl)
theorem dX7_is_41 : decode cX7_is 41 = .ok (.getfield 40, 3) := dk_180 0 40 (dk_at dksX7_is_1 17 rfl rfl)
theorem dX7_is_44 : decode cX7_is 44 = .ok (.iload_n 2, 1) := dk_28 (dk_at dksX7_is_1 20 rfl rfl)
theorem dX7_is_45 : decode cX7_is 45 = .ok (.iadd, 1) := dk_96 (dk_at dksX7_is_1 21 rfl rfl)
theorem dX7_is_46 : decode cX7_is 46 = .ok (.baload, 1) := dk_51 (dk_at dksX7_is_1 22 rfl rfl)
theorem dX7_is_47 : decode cX7_is 47 = .ok (.aload_n 1, 1) := dk_43 (dk_at dksX7_is_1 23 rfl rfl)
theorem dX7_is_48 : decode cX7_is 48 = .ok (.iload_n 2, 1) := dk_28 (dk_at dksX7_is_2 0 rfl rfl)
theorem dX7_is_49 : decode cX7_is 49 = .ok (.invokevirtual 67, 3) := dk_182 0 67 (dk_at dksX7_is_2 1 rfl rfl)
theorem dX7_is_52 : decode cX7_is 52 = .ok (.if_icmp .eq 5, 3) := dk_159 0 5 (dk_at dksX7_is_2 4 rfl rfl)
theorem dX7_is_55 : decode cX7_is 55 = .ok (.iconst 0, 1) := dk_3 (dk_at dksX7_is_2 7 rfl rfl)
theorem dX7_is_56 : decode cX7_is 56 = .ok (.ireturn, 1) := dk_172 (dk_at dksX7_is_2 8 rfl rfl)
theorem dX7_is_57 : decode cX7_is 57 = .ok (.iinc 2 1, 3) := dk_132 2 1 (dk_at dksX7_is_2 9 rfl rfl)
theorem dX7_is_60 : decode cX7_is 60 = .ok (.goto (-32), 3) := dk_167 255 224 (dk_at dksX7_is_2 12 rfl rfl)
theorem dX7_is_63 : decode cX7_is 63 = .ok (.iconst 1, 1) := dk_4 (dk_at dksX7_is_2 15 rfl rfl)
theorem dX7_is_64 : decode cX7_is 64 = .ok (.ireturn, 1) := dk_172 (dk_at dksX7_is_2 16 rfl rfl)
abbrev cX7_fault : ByteArray := prog_6_method_4_code
def yX7_fault : MethodName := ⟨RX7, "fault", "(I)LWidowRoads$Fault;"⟩
def dkwX7_fault_0 : List UInt8 := [187, 0, 56, 89, 27, 42, 180, 0, 40, 183, 0, 58, 176]
abbrev dktX7_fault_0 : List UInt8 := dkwX7_fault_0 ++ []
theorem dksX7_fault_0 : cX7_fault.data.toList.drop 0 = dktX7_fault_0 := by decide +kernel
theorem dX7_fault_0 : decode cX7_fault 0 = .ok (.new 56, 3) := dk_187 0 56 (dk_at dksX7_fault_0 0 rfl rfl)
theorem dX7_fault_3 : decode cX7_fault 3 = .ok (.dup, 1) := dk_89 (dk_at dksX7_fault_0 3 rfl rfl)
theorem dX7_fault_4 : decode cX7_fault 4 = .ok (.iload_n 1, 1) := dk_27 (dk_at dksX7_fault_0 4 rfl rfl)
theorem dX7_fault_5 : decode cX7_fault 5 = .ok (.aload_n 0, 1) := dk_42 (dk_at dksX7_fault_0 5 rfl rfl)
theorem dX7_fault_6 : decode cX7_fault 6 = .ok (.getfield 40, 3) := dk_180 0 40 (dk_at dksX7_fault_0 6 rfl rfl)
theorem dX7_fault_9 : decode cX7_fault 9 = .ok (.invokespecial 58, 3) := dk_183 0 58 (dk_at dksX7_fault_0 9 rfl rfl)
theorem dX7_fault_12 : decode cX7_fault 12 = .ok (.areturn, 1) := dk_176 (dk_at dksX7_fault_0 12 rfl rfl)
abbrev cX7_number : ByteArray := prog_6_method_8_code
def yX7_number : MethodName := ⟨RX7, "number", "(Ljava/lang/String;II)I"⟩
def dkwX7_number_0 : List UInt8 := [42, 43, 182, 0, 79, 154, 0, 9, 42, 4, 182, 0, 75, 191, 42, 28, 29, 182, 0, 82, 172]
abbrev dktX7_number_0 : List UInt8 := dkwX7_number_0 ++ []
theorem dksX7_number_0 : cX7_number.data.toList.drop 0 = dktX7_number_0 := by decide +kernel
theorem dX7_number_0 : decode cX7_number 0 = .ok (.aload_n 0, 1) := dk_42 (dk_at dksX7_number_0 0 rfl rfl)
theorem dX7_number_1 : decode cX7_number 1 = .ok (.aload_n 1, 1) := dk_43 (dk_at dksX7_number_0 1 rfl rfl)
theorem dX7_number_2 : decode cX7_number 2 = .ok (.invokevirtual 79, 3) := dk_182 0 79 (dk_at dksX7_number_0 2 rfl rfl)
theorem dX7_number_5 : decode cX7_number 5 = .ok (.ifCond .ne 9, 3) := dk_154 0 9 (dk_at dksX7_number_0 5 rfl rfl)
theorem dX7_number_8 : decode cX7_number 8 = .ok (.aload_n 0, 1) := dk_42 (dk_at dksX7_number_0 8 rfl rfl)
theorem dX7_number_9 : decode cX7_number 9 = .ok (.iconst 1, 1) := dk_4 (dk_at dksX7_number_0 9 rfl rfl)
theorem dX7_number_10 : decode cX7_number 10 = .ok (.invokevirtual 75, 3) := dk_182 0 75 (dk_at dksX7_number_0 10 rfl rfl)
theorem dX7_number_13 : decode cX7_number 13 = .ok (.athrow, 1) := dk_191 (dk_at dksX7_number_0 13 rfl rfl)
theorem dX7_number_14 : decode cX7_number 14 = .ok (.aload_n 0, 1) := dk_42 (dk_at dksX7_number_0 14 rfl rfl)
theorem dX7_number_15 : decode cX7_number 15 = .ok (.iload_n 2, 1) := dk_28 (dk_at dksX7_number_0 15 rfl rfl)
theorem dX7_number_16 : decode cX7_number 16 = .ok (.iload_n 3, 1) := dk_29 (dk_at dksX7_number_0 16 rfl rfl)
theorem dX7_number_17 : decode cX7_number 17 = .ok (.invokevirtual 82, 3) := dk_182 0 82 (dk_at dksX7_number_0 17 rfl rfl)
theorem dX7_number_20 : decode cX7_number 20 = .ok (.ireturn, 1) := dk_172 (dk_at dksX7_number_0 20 rfl rfl)
abbrev cX7_number_2 : ByteArray := prog_6_method_7_code
def yX7_number_2 : MethodName := ⟨RX7, "number", "(II)I"⟩
def dkwX7_number_2_1 : List UInt8 := [184, 0, 32, 154, 0, 9, 42, 5, 182, 0, 75, 191, 42, 180, 0, 43, 62, 42, 182, 0, 26, 29, 172]
abbrev dktX7_number_2_1 : List UInt8 := dkwX7_number_2_1 ++ []
def dkwX7_number_2_0 : List UInt8 := [42, 180, 0, 46, 5, 159, 0, 9, 42, 4, 182, 0, 75, 191, 42, 180, 0, 43, 133, 27, 133, 28, 133]
abbrev dktX7_number_2_0 : List UInt8 := dkwX7_number_2_0 ++ dktX7_number_2_1
theorem dksX7_number_2_0 : cX7_number_2.data.toList.drop 0 = dktX7_number_2_0 := by decide +kernel
theorem dksX7_number_2_1 : cX7_number_2.data.toList.drop 23 = dktX7_number_2_1 := dk_seg dksX7_number_2_0 23 rfl rfl
theorem dX7_number_2_0 : decode cX7_number_2 0 = .ok (.aload_n 0, 1) := dk_42 (dk_at dksX7_number_2_0 0 rfl rfl)
theorem dX7_number_2_1 : decode cX7_number_2 1 = .ok (.getfield 46, 3) := dk_180 0 46 (dk_at dksX7_number_2_0 1 rfl rfl)
theorem dX7_number_2_4 : decode cX7_number_2 4 = .ok (.iconst 2, 1) := dk_5 (dk_at dksX7_number_2_0 4 rfl rfl)
theorem dX7_number_2_5 : decode cX7_number_2 5 = .ok (.if_icmp .eq 9, 3) := dk_159 0 9 (dk_at dksX7_number_2_0 5 rfl rfl)
theorem dX7_number_2_8 : decode cX7_number_2 8 = .ok (.aload_n 0, 1) := dk_42 (dk_at dksX7_number_2_0 8 rfl rfl)
theorem dX7_number_2_9 : decode cX7_number_2 9 = .ok (.iconst 1, 1) := dk_4 (dk_at dksX7_number_2_0 9 rfl rfl)
theorem dX7_number_2_10 : decode cX7_number_2 10 = .ok (.invokevirtual 75, 3) := dk_182 0 75 (dk_at dksX7_number_2_0 10 rfl rfl)
theorem dX7_number_2_13 : decode cX7_number_2 13 = .ok (.athrow, 1) := dk_191 (dk_at dksX7_number_2_0 13 rfl rfl)
theorem dX7_number_2_14 : decode cX7_number_2 14 = .ok (.aload_n 0, 1) := dk_42 (dk_at dksX7_number_2_0 14 rfl rfl)
theorem dX7_number_2_15 : decode cX7_number_2 15 = .ok (.getfield 43, 3) := dk_180 0 43 (dk_at dksX7_number_2_0 15 rfl rfl)
theorem dX7_number_2_18 : decode cX7_number_2 18 = .ok (.i2l, 1) := dk_133 (dk_at dksX7_number_2_0 18 rfl rfl)
theorem dX7_number_2_19 : decode cX7_number_2 19 = .ok (.iload_n 1, 1) := dk_27 (dk_at dksX7_number_2_0 19 rfl rfl)
theorem dX7_number_2_20 : decode cX7_number_2 20 = .ok (.i2l, 1) := dk_133 (dk_at dksX7_number_2_0 20 rfl rfl)
theorem dX7_number_2_21 : decode cX7_number_2 21 = .ok (.iload_n 2, 1) := dk_28 (dk_at dksX7_number_2_0 21 rfl rfl)
theorem dX7_number_2_22 : decode cX7_number_2 22 = .ok (.i2l, 1) := dk_133 (dk_at dksX7_number_2_0 22 rfl rfl)
theorem dX7_number_2_23 : decode cX7_number_2 23 = .ok (.invokestatic 32, 3) := dk_184 0 32 (dk_at dksX7_number_2_1 0 rfl rfl)
theorem dX7_number_2_26 : decode cX7_number_2 26 = .ok (.ifCond .ne 9, 3) := dk_154 0 9 (dk_at dksX7_number_2_1 3 rfl rfl)
theorem dX7_number_2_29 : decode cX7_number_2 29 = .ok (.aload_n 0, 1) := dk_42 (dk_at dksX7_number_2_1 6 rfl rfl)
theorem dX7_number_2_30 : decode cX7_number_2 30 = .ok (.iconst 2, 1) := dk_5 (dk_at dksX7_number_2_1 7 rfl rfl)
theorem dX7_number_2_31 : decode cX7_number_2 31 = .ok (.invokevirtual 75, 3) := dk_182 0 75 (dk_at dksX7_number_2_1 8 rfl rfl)
theorem dX7_number_2_34 : decode cX7_number_2 34 = .ok (.athrow, 1) := dk_191 (dk_at dksX7_number_2_1 11 rfl rfl)
theorem dX7_number_2_35 : decode cX7_number_2 35 = .ok (.aload_n 0, 1) := dk_42 (dk_at dksX7_number_2_1 12 rfl rfl)
theorem dX7_number_2_36 : decode cX7_number_2 36 = .ok (.getfield 43, 3) := dk_180 0 43 (dk_at dksX7_number_2_1 13 rfl rfl)
theorem dX7_number_2_39 : decode cX7_number_2 39 = .ok (.istore_n 3, 1) := dk_62 (dk_at dksX7_number_2_1 16 rfl rfl)
theorem dX7_number_2_40 : decode cX7_number_2 40 = .ok (.aload_n 0, 1) := dk_42 (dk_at dksX7_number_2_1 17 rfl rfl)
theorem dX7_number_2_41 : decode cX7_number_2 41 = .ok (.invokevirtual 26, 3) := dk_182 0 26 (dk_at dksX7_number_2_1 18 rfl rfl)
theorem dX7_number_2_44 : decode cX7_number_2 44 = .ok (.iload_n 3, 1) := dk_29 (dk_at dksX7_number_2_1 21 rfl rfl)
theorem dX7_number_2_45 : decode cX7_number_2 45 = .ok (.ireturn, 1) := dk_172 (dk_at dksX7_number_2_1 22 rfl rfl)
abbrev cX7_toldLine : ByteArray := prog_6_method_13_code
def yX7_toldLine : MethodName := ⟨RX7, "toldLine", "()V"⟩
def dkwX7_toldLine_6 : List UInt8 := [182, 0, 159, 177]
abbrev dktX7_toldLine_6 : List UInt8 := dkwX7_toldLine_6 ++ []
def dkwX7_toldLine_5 : List UInt8 := [180, 0, 132, 185, 0, 145, 1, 0, 16, 7, 182, 0, 148, 154, 0, 9, 42, 4, 182, 0, 75, 191, 42]
abbrev dktX7_toldLine_5 : List UInt8 := dkwX7_toldLine_5 ++ dktX7_toldLine_6
def dkwX7_toldLine_4 : List UInt8 := [182, 0, 115, 184, 0, 95, 185, 0, 140, 2, 0, 87, 167, 0, 36, 42, 18, 157, 42, 180, 0, 12]
abbrev dktX7_toldLine_4 : List UInt8 := dkwX7_toldLine_4 ++ dktX7_toldLine_5
def dkwX7_toldLine_3 : List UInt8 := [16, 6, 182, 0, 148, 153, 0, 33, 42, 180, 0, 12, 180, 0, 154, 42, 42, 180, 0, 12, 180, 0, 154]
abbrev dktX7_toldLine_3 : List UInt8 := dkwX7_toldLine_3 ++ dktX7_toldLine_4
def dkwX7_toldLine_2 : List UInt8 := [185, 0, 140, 2, 0, 87, 167, 0, 89, 42, 18, 152, 42, 180, 0, 12, 180, 0, 154, 185, 0, 145, 1, 0]
abbrev dktX7_toldLine_2 : List UInt8 := dkwX7_toldLine_2 ++ dktX7_toldLine_3
def dkwX7_toldLine_1 : List UInt8 := [180, 0, 12, 180, 0, 91, 42, 42, 180, 0, 12, 180, 0, 91, 182, 0, 115, 184, 0, 95]
abbrev dktX7_toldLine_1 : List UInt8 := dkwX7_toldLine_1 ++ dktX7_toldLine_2
def dkwX7_toldLine_0 : List UInt8 := [42, 18, 143, 42, 180, 0, 12, 180, 0, 91, 185, 0, 145, 1, 0, 16, 12, 182, 0, 148, 153, 0, 33, 42]
abbrev dktX7_toldLine_0 : List UInt8 := dkwX7_toldLine_0 ++ dktX7_toldLine_1
theorem dksX7_toldLine_0 : cX7_toldLine.data.toList.drop 0 = dktX7_toldLine_0 := by decide +kernel
theorem dksX7_toldLine_1 : cX7_toldLine.data.toList.drop 24 = dktX7_toldLine_1 := dk_seg dksX7_toldLine_0 24 rfl rfl
theorem dksX7_toldLine_2 : cX7_toldLine.data.toList.drop 44 = dktX7_toldLine_2 := dk_seg dksX7_toldLine_1 20 rfl rfl
theorem dksX7_toldLine_3 : cX7_toldLine.data.toList.drop 68 = dktX7_toldLine_3 := dk_seg dksX7_toldLine_2 24 rfl rfl
theorem dksX7_toldLine_4 : cX7_toldLine.data.toList.drop 91 = dktX7_toldLine_4 := dk_seg dksX7_toldLine_3 23 rfl rfl
theorem dksX7_toldLine_5 : cX7_toldLine.data.toList.drop 113 = dktX7_toldLine_5 := dk_seg dksX7_toldLine_4 22 rfl rfl
theorem dksX7_toldLine_6 : cX7_toldLine.data.toList.drop 136 = dktX7_toldLine_6 := dk_seg dksX7_toldLine_5 23 rfl rfl
theorem dX7_toldLine_0 : decode cX7_toldLine 0 = .ok (.aload_n 0, 1) := dk_42 (dk_at dksX7_toldLine_0 0 rfl rfl)
theorem dX7_toldLine_1 : decode cX7_toldLine 1 = .ok (.ldc 143, 2) := dk_18 143 (dk_at dksX7_toldLine_0 1 rfl rfl)
theorem dX7_toldLine_3 : decode cX7_toldLine 3 = .ok (.aload_n 0, 1) := dk_42 (dk_at dksX7_toldLine_0 3 rfl rfl)
theorem dX7_toldLine_4 : decode cX7_toldLine 4 = .ok (.getfield 12, 3) := dk_180 0 12 (dk_at dksX7_toldLine_0 4 rfl rfl)
theorem dX7_toldLine_7 : decode cX7_toldLine 7 = .ok (.getfield 91, 3) := dk_180 0 91 (dk_at dksX7_toldLine_0 7 rfl rfl)
theorem dX7_toldLine_10 : decode cX7_toldLine 10 = .ok (.invokeinterface 145 1, 5) := by decide +kernel
theorem dX7_toldLine_15 : decode cX7_toldLine 15 = .ok (.bipush 12, 2) := dk_16 12 (dk_at dksX7_toldLine_0 15 rfl rfl)
theorem dX7_toldLine_17 : decode cX7_toldLine 17 = .ok (.invokevirtual 148, 3) := dk_182 0 148 (dk_at dksX7_toldLine_0 17 rfl rfl)
theorem dX7_toldLine_20 : decode cX7_toldLine 20 = .ok (.ifCond .eq 33, 3) := dk_153 0 33 (dk_at dksX7_toldLine_0 20 rfl rfl)
theorem dX7_toldLine_23 : decode cX7_toldLine 23 = .ok (.aload_n 0, 1) := dk_42 (dk_at dksX7_toldLine_0 23 rfl rfl)
theorem dX7_toldLine_24 : decode cX7_toldLine 24 = .ok (.getfield 12, 3) := dk_180 0 12 (dk_at dksX7_toldLine_1 0 rfl rfl)
theorem dX7_toldLine_27 : decode cX7_toldLine 27 = .ok (.getfield 91, 3) := dk_180 0 91 (dk_at dksX7_toldLine_1 3 rfl rfl)
theorem dX7_toldLine_30 : decode cX7_toldLine 30 = .ok (.aload_n 0, 1) := dk_42 (dk_at dksX7_toldLine_1 6 rfl rfl)
theorem dX7_toldLine_31 : decode cX7_toldLine 31 = .ok (.aload_n 0, 1) := dk_42 (dk_at dksX7_toldLine_1 7 rfl rfl)
theorem dX7_toldLine_32 : decode cX7_toldLine 32 = .ok (.getfield 12, 3) := dk_180 0 12 (dk_at dksX7_toldLine_1 8 rfl rfl)
theorem dX7_toldLine_35 : decode cX7_toldLine 35 = .ok (.getfield 91, 3) := dk_180 0 91 (dk_at dksX7_toldLine_1 11 rfl rfl)
theorem dX7_toldLine_38 : decode cX7_toldLine 38 = .ok (.invokevirtual 115, 3) := dk_182 0 115 (dk_at dksX7_toldLine_1 14 rfl rfl)
theorem dX7_toldLine_41 : decode cX7_toldLine 41 = .ok (.invokestatic 95, 3) := dk_184 0 95 (dk_at dksX7_toldLine_1 17 rfl rfl)
theorem dX7_toldLine_44 : decode cX7_toldLine 44 = .ok (.invokeinterface 140 2, 5) := by decide +kernel
theorem dX7_toldLine_49 : decode cX7_toldLine 49 = .ok (.pop, 1) := dk_87 (dk_at dksX7_toldLine_2 5 rfl rfl)
theorem dX7_toldLine_50 : decode cX7_toldLine 50 = .ok (.goto 89, 3) := dk_167 0 89 (dk_at dksX7_toldLine_2 6 rfl rfl)
theorem dX7_toldLine_53 : decode cX7_toldLine 53 = .ok (.aload_n 0, 1) := dk_42 (dk_at dksX7_toldLine_2 9 rfl rfl)
theorem dX7_toldLine_54 : decode cX7_toldLine 54 = .ok (.ldc 152, 2) := dk_18 152 (dk_at dksX7_toldLine_2 10 rfl rfl)
theorem dX7_toldLine_56 : decode cX7_toldLine 56 = .ok (.aload_n 0, 1) := dk_42 (dk_at dksX7_toldLine_2 12 rfl rfl)
theorem dX7_toldLine_57 : decode cX7_toldLine 57 = .ok (.getfield 12, 3) := dk_180 0 12 (dk_at dksX7_toldLine_2 13 rfl rfl)
theorem dX7_toldLine_60 : decode cX7_toldLine 60 = .ok (.getfield 154, 3) := dk_180 0 154 (dk_at dksX7_toldLine_2 16 rfl rfl)
theorem dX7_toldLine_63 : decode cX7_toldLine 63 = .ok (.invokeinterface 145 1, 5) := by decide +kernel
theorem dX7_toldLine_68 : decode cX7_toldLine 68 = .ok (.bipush 6, 2) := dk_16 6 (dk_at dksX7_toldLine_3 0 rfl rfl)
theorem dX7_toldLine_70 : decode cX7_toldLine 70 = .ok (.invokevirtual 148, 3) := dk_182 0 148 (dk_at dksX7_toldLine_3 2 rfl rfl)
theorem dX7_toldLine_73 : decode cX7_toldLine 73 = .ok (.ifCond .eq 33, 3) := dk_153 0 33 (dk_at dksX7_toldLine_3 5 rfl rfl)
theorem dX7_toldLine_76 : decode cX7_toldLine 76 = .ok (.aload_n 0, 1) := dk_42 (dk_at dksX7_toldLine_3 8 rfl rfl)
theorem dX7_toldLine_77 : decode cX7_toldLine 77 = .ok (.getfield 12, 3) := dk_180 0 12 (dk_at dksX7_toldLine_3 9 rfl rfl)
theorem dX7_toldLine_80 : decode cX7_toldLine 80 = .ok (.getfield 154, 3) := dk_180 0 154 (dk_at dksX7_toldLine_3 12 rfl rfl)
theorem dX7_toldLine_83 : decode cX7_toldLine 83 = .ok (.aload_n 0, 1) := dk_42 (dk_at dksX7_toldLine_3 15 rfl rfl)
theorem dX7_toldLine_84 : decode cX7_toldLine 84 = .ok (.aload_n 0, 1) := dk_42 (dk_at dksX7_toldLine_3 16 rfl rfl)
theorem dX7_toldLine_85 : decode cX7_toldLine 85 = .ok (.getfield 12, 3) := dk_180 0 12 (dk_at dksX7_toldLine_3 17 rfl rfl)
theorem dX7_toldLine_88 : decode cX7_toldLine 88 = .ok (.getfield 154, 3) := dk_180 0 154 (dk_at dksX7_toldLine_3 20 rfl rfl)
theorem dX7_toldLine_91 : decode cX7_toldLine 91 = .ok (.invokevirtual 115, 3) := dk_182 0 115 (dk_at dksX7_toldLine_4 0 rfl rfl)
theorem dX7_toldLine_94 : decode cX7_toldLine 94 = .ok (.invokestatic 95, 3) := dk_184 0 95 (dk_at dksX7_toldLine_4 3 rfl rfl)
theorem dX7_toldLine_97 : decode cX7_toldLine 97 = .ok (.invokeinterface 140 2, 5) := by decide +kernel
theorem dX7_toldLine_102 : decode cX7_toldLine 102 = .ok (.pop, 1) := dk_87 (dk_at dksX7_toldLine_4 11 rfl rfl)
theorem dX7_toldLine_103 : decode cX7_toldLine 103 = .ok (.goto 36, 3) := dk_167 0 36 (dk_at dksX7_toldLine_4 12 rfl rfl)
theorem dX7_toldLine_106 : decode cX7_toldLine 106 = .ok (.aload_n 0, 1) := dk_42 (dk_at dksX7_toldLine_4 15 rfl rfl)
theorem dX7_toldLine_107 : decode cX7_toldLine 107 = .ok (.ldc 157, 2) := dk_18 157 (dk_at dksX7_toldLine_4 16 rfl rfl)
theorem dX7_toldLine_109 : decode cX7_toldLine 109 = .ok (.aload_n 0, 1) := dk_42 (dk_at dksX7_toldLine_4 18 rfl rfl)
theorem dX7_toldLine_110 : decode cX7_toldLine 110 = .ok (.getfield 12, 3) := dk_180 0 12 (dk_at dksX7_toldLine_4 19 rfl rfl)
theorem dX7_toldLine_113 : decode cX7_toldLine 113 = .ok (.getfield 132, 3) := dk_180 0 132 (dk_at dksX7_toldLine_5 0 rfl rfl)
theorem dX7_toldLine_116 : decode cX7_toldLine 116 = .ok (.invokeinterface 145 1, 5) := by decide +kernel
theorem dX7_toldLine_121 : decode cX7_toldLine 121 = .ok (.bipush 7, 2) := dk_16 7 (dk_at dksX7_toldLine_5 8 rfl rfl)
theorem dX7_toldLine_123 : decode cX7_toldLine 123 = .ok (.invokevirtual 148, 3) := dk_182 0 148 (dk_at dksX7_toldLine_5 10 rfl rfl)
theorem dX7_toldLine_126 : decode cX7_toldLine 126 = .ok (.ifCond .ne 9, 3) := dk_154 0 9 (dk_at dksX7_toldLine_5 13 rfl rfl)
theorem dX7_toldLine_129 : decode cX7_toldLine 129 = .ok (.aload_n 0, 1) := dk_42 (dk_at dksX7_toldLine_5 16 rfl rfl)
theorem dX7_toldLine_130 : decode cX7_toldLine 130 = .ok (.iconst 1, 1) := dk_4 (dk_at dksX7_toldLine_5 17 rfl rfl)
theorem dX7_toldLine_131 : decode cX7_toldLine 131 = .ok (.invokevirtual 75, 3) := dk_182 0 75 (dk_at dksX7_toldLine_5 18 rfl rfl)
theorem dX7_toldLine_134 : decode cX7_toldLine 134 = .ok (.athrow, 1) := dk_191 (dk_at dksX7_toldLine_5 21 rfl rfl)
theorem dX7_toldLine_135 : decode cX7_toldLine 135 = .ok (.aload_n 0, 1) := dk_42 (dk_at dksX7_toldLine_5 22 rfl rfl)
theorem dX7_toldLine_136 : decode cX7_toldLine 136 = .ok (.invokevirtual 159, 3) := dk_182 0 159 (dk_at dksX7_toldLine_6 0 rfl rfl)
theorem dX7_toldLine_139 : decode cX7_toldLine 139 = .ok (.return_, 1) := dk_177 (dk_at dksX7_toldLine_6 3 rfl rfl)
abbrev cX7_line : ByteArray := prog_6_method_9_code
def yX7_line : MethodName := ⟨RX7, "line", "(Ljava/lang/String;II)Z"⟩
def dkwX7_line_1 : List UInt8 := [182, 0, 26, 4, 172]
abbrev dktX7_line_1 : List UInt8 := dkwX7_line_1 ++ []
def dkwX7_line_0 : List UInt8 := [42, 43, 182, 0, 71, 154, 0, 5, 3, 172, 28, 29, 160, 0, 9, 42, 6, 182, 0, 75, 191, 42]
abbrev dktX7_line_0 : List UInt8 := dkwX7_line_0 ++ dktX7_line_1
theorem dksX7_line_0 : cX7_line.data.toList.drop 0 = dktX7_line_0 := by decide +kernel
theorem dksX7_line_1 : cX7_line.data.toList.drop 22 = dktX7_line_1 := dk_seg dksX7_line_0 22 rfl rfl
theorem dX7_line_0 : decode cX7_line 0 = .ok (.aload_n 0, 1) := dk_42 (dk_at dksX7_line_0 0 rfl rfl)
theorem dX7_line_1 : decode cX7_line 1 = .ok (.aload_n 1, 1) := dk_43 (dk_at dksX7_line_0 1 rfl rfl)
theorem dX7_line_2 : decode cX7_line 2 = .ok (.invokevirtual 71, 3) := dk_182 0 71 (dk_at dksX7_line_0 2 rfl rfl)
theorem dX7_line_5 : decode cX7_line 5 = .ok (.ifCond .ne 5, 3) := dk_154 0 5 (dk_at dksX7_line_0 5 rfl rfl)
theorem dX7_line_8 : decode cX7_line 8 = .ok (.iconst 0, 1) := dk_3 (dk_at dksX7_line_0 8 rfl rfl)
theorem dX7_line_9 : decode cX7_line 9 = .ok (.ireturn, 1) := dk_172 (dk_at dksX7_line_0 9 rfl rfl)
theorem dX7_line_10 : decode cX7_line 10 = .ok (.iload_n 2, 1) := dk_28 (dk_at dksX7_line_0 10 rfl rfl)
theorem dX7_line_11 : decode cX7_line 11 = .ok (.iload_n 3, 1) := dk_29 (dk_at dksX7_line_0 11 rfl rfl)
theorem dX7_line_12 : decode cX7_line 12 = .ok (.if_icmp .ne 9, 3) := dk_160 0 9 (dk_at dksX7_line_0 12 rfl rfl)
theorem dX7_line_15 : decode cX7_line 15 = .ok (.aload_n 0, 1) := dk_42 (dk_at dksX7_line_0 15 rfl rfl)
theorem dX7_line_16 : decode cX7_line 16 = .ok (.iconst 3, 1) := dk_6 (dk_at dksX7_line_0 16 rfl rfl)
theorem dX7_line_17 : decode cX7_line 17 = .ok (.invokevirtual 75, 3) := dk_182 0 75 (dk_at dksX7_line_0 17 rfl rfl)
theorem dX7_line_20 : decode cX7_line 20 = .ok (.athrow, 1) := dk_191 (dk_at dksX7_line_0 20 rfl rfl)
theorem dX7_line_21 : decode cX7_line 21 = .ok (.aload_n 0, 1) := dk_42 (dk_at dksX7_line_0 21 rfl rfl)
theorem dX7_line_22 : decode cX7_line 22 = .ok (.invokevirtual 26, 3) := dk_182 0 26 (dk_at dksX7_line_1 0 rfl rfl)
theorem dX7_line_25 : decode cX7_line 25 = .ok (.iconst 1, 1) := dk_4 (dk_at dksX7_line_1 3 rfl rfl)
theorem dX7_line_26 : decode cX7_line 26 = .ok (.ireturn, 1) := dk_172 (dk_at dksX7_line_1 4 rfl rfl)
abbrev cX7_spotHere : ByteArray := prog_6_method_10_code
def yX7_spotHere : MethodName := ⟨RX7, "spotHere", "(Ljava/util/List;)I"⟩
def dkwX7_spotHere_5 : List UInt8 := [96, 172]
abbrev dktX7_spotHere_5 : List UInt8 := dkwX7_spotHere_5 ++ []
def dkwX7_spotHere_4 : List UInt8 := [42, 5, 182, 0, 75, 191, 16, 8, 28, 104, 42, 3, 42, 180, 0, 12, 180, 0, 88, 4, 100, 182, 0, 82]
abbrev dktX7_spotHere_4 : List UInt8 := dkwX7_spotHere_4 ++ dktX7_spotHere_5
def dkwX7_spotHere_3 : List UInt8 := [154, 0, 24, 43, 16, 8, 28, 104, 42, 180, 0, 43, 96, 184, 0, 95, 185, 0, 101, 2, 0, 153, 0, 9]
abbrev dktX7_spotHere_3 : List UInt8 := dkwX7_spotHere_3 ++ dktX7_spotHere_4
def dkwX7_spotHere_2 : List UInt8 := [180, 0, 12, 180, 0, 91, 16, 8, 28, 104, 42, 180, 0, 43, 96, 184, 0, 95, 185, 0, 101, 2, 0]
abbrev dktX7_spotHere_2 : List UInt8 := dkwX7_spotHere_2 ++ dktX7_spotHere_3
def dkwX7_spotHere_1 : List UInt8 := [180, 0, 43, 133, 9, 42, 180, 0, 12, 180, 0, 88, 4, 100, 133, 184, 0, 32, 153, 0, 57, 42]
abbrev dktX7_spotHere_1 : List UInt8 := dkwX7_spotHere_1 ++ dktX7_spotHere_2
def dkwX7_spotHere_0 : List UInt8 := [42, 3, 42, 180, 0, 12, 180, 0, 85, 4, 100, 182, 0, 82, 61, 42, 180, 0, 46, 5, 160, 0, 79, 42]
abbrev dktX7_spotHere_0 : List UInt8 := dkwX7_spotHere_0 ++ dktX7_spotHere_1
theorem dksX7_spotHere_0 : cX7_spotHere.data.toList.drop 0 = dktX7_spotHere_0 := by decide +kernel
theorem dksX7_spotHere_1 : cX7_spotHere.data.toList.drop 24 = dktX7_spotHere_1 := dk_seg dksX7_spotHere_0 24 rfl rfl
theorem dksX7_spotHere_2 : cX7_spotHere.data.toList.drop 46 = dktX7_spotHere_2 := dk_seg dksX7_spotHere_1 22 rfl rfl
theorem dksX7_spotHere_3 : cX7_spotHere.data.toList.drop 69 = dktX7_spotHere_3 := dk_seg dksX7_spotHere_2 23 rfl rfl
theorem dksX7_spotHere_4 : cX7_spotHere.data.toList.drop 93 = dktX7_spotHere_4 := dk_seg dksX7_spotHere_3 24 rfl rfl
theorem dksX7_spotHere_5 : cX7_spotHere.data.toList.drop 117 = dktX7_spotHere_5 := dk_seg dksX7_spotHere_4 24 rfl rfl
theorem dX7_spotHere_0 : decode cX7_spotHere 0 = .ok (.aload_n 0, 1) := dk_42 (dk_at dksX7_spotHere_0 0 rfl rfl)
theorem dX7_spotHere_1 : decode cX7_spotHere 1 = .ok (.iconst 0, 1) := dk_3 (dk_at dksX7_spotHere_0 1 rfl rfl)
theorem dX7_spotHere_2 : decode cX7_spotHere 2 = .ok (.aload_n 0, 1) := dk_42 (dk_at dksX7_spotHere_0 2 rfl rfl)
theorem dX7_spotHere_3 : decode cX7_spotHere 3 = .ok (.getfield 12, 3) := dk_180 0 12 (dk_at dksX7_spotHere_0 3 rfl rfl)
theorem dX7_spotHere_6 : decode cX7_spotHere 6 = .ok (.getfield 85, 3) := dk_180 0 85 (dk_at dksX7_spotHere_0 6 rfl rfl)
theorem dX7_spotHere_9 : decode cX7_spotHere 9 = .ok (.iconst 1, 1) := dk_4 (dk_at dksX7_spotHere_0 9 rfl rfl)
theorem dX7_spotHere_10 : decode cX7_spotHere 10 = .ok (.isub, 1) := dk_100 (dk_at dksX7_spotHere_0 10 rfl rfl)
theorem dX7_spotHere_11 : decode cX7_spotHere 11 = .ok (.invokevirtual 82, 3) := dk_182 0 82 (dk_at dksX7_spotHere_0 11 rfl rfl)
theorem dX7_spotHere_14 : decode cX7_spotHere 14 = .ok (.istore_n 2, 1) := dk_61 (dk_at dksX7_spotHere_0 14 rfl rfl)
theorem dX7_spotHere_15 : decode cX7_spotHere 15 = .ok (.aload_n 0, 1) := dk_42 (dk_at dksX7_spotHere_0 15 rfl rfl)
theorem dX7_spotHere_16 : decode cX7_spotHere 16 = .ok (.getfield 46, 3) := dk_180 0 46 (dk_at dksX7_spotHere_0 16 rfl rfl)
theorem dX7_spotHere_19 : decode cX7_spotHere 19 = .ok (.iconst 2, 1) := dk_5 (dk_at dksX7_spotHere_0 19 rfl rfl)
theorem dX7_spotHere_20 : decode cX7_spotHere 20 = .ok (.if_icmp .ne 79, 3) := dk_160 0 79 (dk_at dksX7_spotHere_0 20 rfl rfl)
theorem dX7_spotHere_23 : decode cX7_spotHere 23 = .ok (.aload_n 0, 1) := dk_42 (dk_at dksX7_spotHere_0 23 rfl rfl)
theorem dX7_spotHere_24 : decode cX7_spotHere 24 = .ok (.getfield 43, 3) := dk_180 0 43 (dk_at dksX7_spotHere_1 0 rfl rfl)
theorem dX7_spotHere_27 : decode cX7_spotHere 27 = .ok (.i2l, 1) := dk_133 (dk_at dksX7_spotHere_1 3 rfl rfl)
theorem dX7_spotHere_28 : decode cX7_spotHere 28 = .ok (.lconst 0, 1) := dk_9 (dk_at dksX7_spotHere_1 4 rfl rfl)
theorem dX7_spotHere_29 : decode cX7_spotHere 29 = .ok (.aload_n 0, 1) := dk_42 (dk_at dksX7_spotHere_1 5 rfl rfl)
theorem dX7_spotHere_30 : decode cX7_spotHere 30 = .ok (.getfield 12, 3) := dk_180 0 12 (dk_at dksX7_spotHere_1 6 rfl rfl)
theorem dX7_spotHere_33 : decode cX7_spotHere 33 = .ok (.getfield 88, 3) := dk_180 0 88 (dk_at dksX7_spotHere_1 9 rfl rfl)
theorem dX7_spotHere_36 : decode cX7_spotHere 36 = .ok (.iconst 1, 1) := dk_4 (dk_at dksX7_spotHere_1 12 rfl rfl)
theorem dX7_spotHere_37 : decode cX7_spotHere 37 = .ok (.isub, 1) := dk_100 (dk_at dksX7_spotHere_1 13 rfl rfl)
theorem dX7_spotHere_38 : decode cX7_spotHere 38 = .ok (.i2l, 1) := dk_133 (dk_at dksX7_spotHere_1 14 rfl rfl)
theorem dX7_spotHere_39 : decode cX7_spotHere 39 = .ok (.invokestatic 32, 3) := dk_184 0 32 (dk_at dksX7_spotHere_1 15 rfl rfl)
theorem dX7_spotHere_42 : decode cX7_spotHere 42 = .ok (.ifCond .eq 57, 3) := dk_153 0 57 (dk_at dksX7_spotHere_1 18 rfl rfl)
theorem dX7_spotHere_45 : decode cX7_spotHere 45 = .ok (.aload_n 0, 1) := dk_42 (dk_at dksX7_spotHere_1 21 rfl rfl)
theorem dX7_spotHere_46 : decode cX7_spotHere 46 = .ok (.getfield 12, 3) := dk_180 0 12 (dk_at dksX7_spotHere_2 0 rfl rfl)
theorem dX7_spotHere_49 : decode cX7_spotHere 49 = .ok (.getfield 91, 3) := dk_180 0 91 (dk_at dksX7_spotHere_2 3 rfl rfl)
theorem dX7_spotHere_52 : decode cX7_spotHere 52 = .ok (.bipush 8, 2) := dk_16 8 (dk_at dksX7_spotHere_2 6 rfl rfl)
theorem dX7_spotHere_54 : decode cX7_spotHere 54 = .ok (.iload_n 2, 1) := dk_28 (dk_at dksX7_spotHere_2 8 rfl rfl)
theorem dX7_spotHere_55 : decode cX7_spotHere 55 = .ok (.imul, 1) := dk_104 (dk_at dksX7_spotHere_2 9 rfl rfl)
theorem dX7_spotHere_56 : decode cX7_spotHere 56 = .ok (.aload_n 0, 1) := dk_42 (dk_at dksX7_spotHere_2 10 rfl rfl)
theorem dX7_spotHere_57 : decode cX7_spotHere 57 = .ok (.getfield 43, 3) := dk_180 0 43 (dk_at dksX7_spotHere_2 11 rfl rfl)
theorem dX7_spotHere_60 : decode cX7_spotHere 60 = .ok (.iadd, 1) := dk_96 (dk_at dksX7_spotHere_2 14 rfl rfl)
theorem dX7_spotHere_61 : decode cX7_spotHere 61 = .ok (.invokestatic 95, 3) := dk_184 0 95 (dk_at dksX7_spotHere_2 15 rfl rfl)
theorem dX7_spotHere_64 : decode cX7_spotHere 64 = .ok (.invokeinterface 101 2, 5) := by decide +kernel
theorem dX7_spotHere_69 : decode cX7_spotHere 69 = .ok (.ifCond .ne 24, 3) := dk_154 0 24 (dk_at dksX7_spotHere_3 0 rfl rfl)
theorem dX7_spotHere_72 : decode cX7_spotHere 72 = .ok (.aload_n 1, 1) := dk_43 (dk_at dksX7_spotHere_3 3 rfl rfl)
theorem dX7_spotHere_73 : decode cX7_spotHere 73 = .ok (.bipush 8, 2) := dk_16 8 (dk_at dksX7_spotHere_3 4 rfl rfl)
theorem dX7_spotHere_75 : decode cX7_spotHere 75 = .ok (.iload_n 2, 1) := dk_28 (dk_at dksX7_spotHere_3 6 rfl rfl)
theorem dX7_spotHere_76 : decode cX7_spotHere 76 = .ok (.imul, 1) := dk_104 (dk_at dksX7_spotHere_3 7 rfl rfl)
theorem dX7_spotHere_77 : decode cX7_spotHere 77 = .ok (.aload_n 0, 1) := dk_42 (dk_at dksX7_spotHere_3 8 rfl rfl)
theorem dX7_spotHere_78 : decode cX7_spotHere 78 = .ok (.getfield 43, 3) := dk_180 0 43 (dk_at dksX7_spotHere_3 9 rfl rfl)
theorem dX7_spotHere_81 : decode cX7_spotHere 81 = .ok (.iadd, 1) := dk_96 (dk_at dksX7_spotHere_3 12 rfl rfl)
theorem dX7_spotHere_82 : decode cX7_spotHere 82 = .ok (.invokestatic 95, 3) := dk_184 0 95 (dk_at dksX7_spotHere_3 13 rfl rfl)
theorem dX7_spotHere_85 : decode cX7_spotHere 85 = .ok (.invokeinterface 101 2, 5) := by decide +kernel
theorem dX7_spotHere_90 : decode cX7_spotHere 90 = .ok (.ifCond .eq 9, 3) := dk_153 0 9 (dk_at dksX7_spotHere_3 21 rfl rfl)
theorem dX7_spotHere_93 : decode cX7_spotHere 93 = .ok (.aload_n 0, 1) := dk_42 (dk_at dksX7_spotHere_4 0 rfl rfl)
theorem dX7_spotHere_94 : decode cX7_spotHere 94 = .ok (.iconst 2, 1) := dk_5 (dk_at dksX7_spotHere_4 1 rfl rfl)
theorem dX7_spotHere_95 : decode cX7_spotHere 95 = .ok (.invokevirtual 75, 3) := dk_182 0 75 (dk_at dksX7_spotHere_4 2 rfl rfl)
theorem dX7_spotHere_98 : decode cX7_spotHere 98 = .ok (.athrow, 1) := dk_191 (dk_at dksX7_spotHere_4 5 rfl rfl)
theorem dX7_spotHere_99 : decode cX7_spotHere 99 = .ok (.bipush 8, 2) := dk_16 8 (dk_at dksX7_spotHere_4 6 rfl rfl)
theorem dX7_spotHere_101 : decode cX7_spotHere 101 = .ok (.iload_n 2, 1) := dk_28 (dk_at dksX7_spotHere_4 8 rfl rfl)
theorem dX7_spotHere_102 : decode cX7_spotHere 102 = .ok (.imul, 1) := dk_104 (dk_at dksX7_spotHere_4 9 rfl rfl)
theorem dX7_spotHere_103 : decode cX7_spotHere 103 = .ok (.aload_n 0, 1) := dk_42 (dk_at dksX7_spotHere_4 10 rfl rfl)
theorem dX7_spotHere_104 : decode cX7_spotHere 104 = .ok (.iconst 0, 1) := dk_3 (dk_at dksX7_spotHere_4 11 rfl rfl)
theorem dX7_spotHere_105 : decode cX7_spotHere 105 = .ok (.aload_n 0, 1) := dk_42 (dk_at dksX7_spotHere_4 12 rfl rfl)
theorem dX7_spotHere_106 : decode cX7_spotHere 106 = .ok (.getfield 12, 3) := dk_180 0 12 (dk_at dksX7_spotHere_4 13 rfl rfl)
theorem dX7_spotHere_109 : decode cX7_spotHere 109 = .ok (.getfield 88, 3) := dk_180 0 88 (dk_at dksX7_spotHere_4 16 rfl rfl)
theorem dX7_spotHere_112 : decode cX7_spotHere 112 = .ok (.iconst 1, 1) := dk_4 (dk_at dksX7_spotHere_4 19 rfl rfl)
theorem dX7_spotHere_113 : decode cX7_spotHere 113 = .ok (.isub, 1) := dk_100 (dk_at dksX7_spotHere_4 20 rfl rfl)
theorem dX7_spotHere_114 : decode cX7_spotHere 114 = .ok (.invokevirtual 82, 3) := dk_182 0 82 (dk_at dksX7_spotHere_4 21 rfl rfl)
theorem dX7_spotHere_117 : decode cX7_spotHere 117 = .ok (.iadd, 1) := dk_96 (dk_at dksX7_spotHere_5 0 rfl rfl)
theorem dX7_spotHere_118 : decode cX7_spotHere 118 = .ok (.ireturn, 1) := dk_172 (dk_at dksX7_spotHere_5 1 rfl rfl)
abbrev cX7_widowLine : ByteArray := prog_6_method_12_code
def yX7_widowLine : MethodName := ⟨RX7, "widowLine", "()V"⟩
def dkwX7_widowLine_6 : List UInt8 := [87, 177]
abbrev dktX7_widowLine_6 : List UInt8 := dkwX7_widowLine_6 ++ []
def dkwX7_widowLine_5 : List UInt8 := [180, 0, 132, 187, 0, 135, 89, 27, 28, 29, 21, 4, 25, 5, 21, 6, 183, 0, 137, 185, 0, 140, 2, 0]
abbrev dktX7_widowLine_5 : List UInt8 := dkwX7_widowLine_5 ++ dktX7_widowLine_6
def dkwX7_widowLine_4 : List UInt8 := [25, 5, 21, 6, 42, 182, 0, 129, 79, 42, 182, 0, 26, 132, 6, 1, 167, 255, 219, 42, 180, 0, 12]
abbrev dktX7_widowLine_4 : List UInt8 := dkwX7_widowLine_4 ++ dktX7_widowLine_5
def dkwX7_widowLine_3 : List UInt8 := [54, 6, 42, 182, 0, 129, 2, 159, 0, 35, 21, 6, 16, 8, 160, 0, 9, 42, 6, 182, 0, 75, 191]
abbrev dktX7_widowLine_3 : List UInt8 := dkwX7_widowLine_3 ++ dktX7_widowLine_4
def dkwX7_widowLine_2 : List UInt8 := [153, 0, 11, 42, 182, 0, 129, 2, 160, 0, 9, 42, 4, 182, 0, 75, 191, 16, 8, 188, 10, 58, 5, 3]
abbrev dktX7_widowLine_2 : List UInt8 := dkwX7_widowLine_2 ++ dktX7_widowLine_3
def dkwX7_widowLine_1 : List UInt8 := [4, 16, 40, 182, 0, 121, 62, 42, 18, 126, 3, 16, 11, 182, 0, 121, 54, 4, 42, 18, 127, 182, 0, 79]
abbrev dktX7_widowLine_1 : List UInt8 := dkwX7_widowLine_1 ++ dktX7_widowLine_2
def dkwX7_widowLine_0 : List UInt8 := [42, 42, 180, 0, 12, 180, 0, 91, 182, 0, 115, 60, 42, 18, 119, 3, 6, 182, 0, 121, 61, 42, 18, 124]
abbrev dktX7_widowLine_0 : List UInt8 := dkwX7_widowLine_0 ++ dktX7_widowLine_1
theorem dksX7_widowLine_0 : cX7_widowLine.data.toList.drop 0 = dktX7_widowLine_0 := by decide +kernel
theorem dksX7_widowLine_1 : cX7_widowLine.data.toList.drop 24 = dktX7_widowLine_1 := dk_seg dksX7_widowLine_0 24 rfl rfl
theorem dksX7_widowLine_2 : cX7_widowLine.data.toList.drop 48 = dktX7_widowLine_2 := dk_seg dksX7_widowLine_1 24 rfl rfl
theorem dksX7_widowLine_3 : cX7_widowLine.data.toList.drop 72 = dktX7_widowLine_3 := dk_seg dksX7_widowLine_2 24 rfl rfl
theorem dksX7_widowLine_4 : cX7_widowLine.data.toList.drop 95 = dktX7_widowLine_4 := dk_seg dksX7_widowLine_3 23 rfl rfl
theorem dksX7_widowLine_5 : cX7_widowLine.data.toList.drop 118 = dktX7_widowLine_5 := dk_seg dksX7_widowLine_4 23 rfl rfl
theorem dksX7_widowLine_6 : cX7_widowLine.data.toList.drop 142 = dktX7_widowLine_6 := dk_seg dksX7_widowLine_5 24 rfl rfl
theorem dX7_widowLine_0 : decode cX7_widowLine 0 = .ok (.aload_n 0, 1) := dk_42 (dk_at dksX7_widowLine_0 0 rfl rfl)
theorem dX7_widowLine_1 : decode cX7_widowLine 1 = .ok (.aload_n 0, 1) := dk_42 (dk_at dksX7_widowLine_0 1 rfl rfl)
theorem dX7_widowLine_2 : decode cX7_widowLine 2 = .ok (.getfield 12, 3) := dk_180 0 12 (dk_at dksX7_widowLine_0 2 rfl rfl)
theorem dX7_widowLine_5 : decode cX7_widowLine 5 = .ok (.getfield 91, 3) := dk_180 0 91 (dk_at dksX7_widowLine_0 5 rfl rfl)
theorem dX7_widowLine_8 : decode cX7_widowLine 8 = .ok (.invokevirtual 115, 3) := dk_182 0 115 (dk_at dksX7_widowLine_0 8 rfl rfl)
theorem dX7_widowLine_11 : decode cX7_widowLine 11 = .ok (.istore_n 1, 1) := dk_60 (dk_at dksX7_widowLine_0 11 rfl rfl)
theorem dX7_widowLine_12 : decode cX7_widowLine 12 = .ok (.aload_n 0, 1) := dk_42 (dk_at dksX7_widowLine_0 12 rfl rfl)
theorem dX7_widowLine_13 : decode cX7_widowLine 13 = .ok (.ldc 119, 2) := dk_18 119 (dk_at dksX7_widowLine_0 13 rfl rfl)
theorem dX7_widowLine_15 : decode cX7_widowLine 15 = .ok (.iconst 0, 1) := dk_3 (dk_at dksX7_widowLine_0 15 rfl rfl)
theorem dX7_widowLine_16 : decode cX7_widowLine 16 = .ok (.iconst 3, 1) := dk_6 (dk_at dksX7_widowLine_0 16 rfl rfl)
theorem dX7_widowLine_17 : decode cX7_widowLine 17 = .ok (.invokevirtual 121, 3) := dk_182 0 121 (dk_at dksX7_widowLine_0 17 rfl rfl)
theorem dX7_widowLine_20 : decode cX7_widowLine 20 = .ok (.istore_n 2, 1) := dk_61 (dk_at dksX7_widowLine_0 20 rfl rfl)
theorem dX7_widowLine_21 : decode cX7_widowLine 21 = .ok (.aload_n 0, 1) := dk_42 (dk_at dksX7_widowLine_0 21 rfl rfl)
theorem dX7_widowLine_22 : decode cX7_widowLine 22 = .ok (.ldc 124, 2) := dk_18 124 (dk_at dksX7_widowLine_0 22 rfl rfl)
theorem dX7_widowLine_24 : decode cX7_widowLine 24 = .ok (.iconst 1, 1) := dk_4 (dk_at dksX7_widowLine_1 0 rfl rfl)
theorem dX7_widowLine_25 : decode cX7_widowLine 25 = .ok (.bipush 40, 2) := dk_16 40 (dk_at dksX7_widowLine_1 1 rfl rfl)
theorem dX7_widowLine_27 : decode cX7_widowLine 27 = .ok (.invokevirtual 121, 3) := dk_182 0 121 (dk_at dksX7_widowLine_1 3 rfl rfl)
theorem dX7_widowLine_30 : decode cX7_widowLine 30 = .ok (.istore_n 3, 1) := dk_62 (dk_at dksX7_widowLine_1 6 rfl rfl)
theorem dX7_widowLine_31 : decode cX7_widowLine 31 = .ok (.aload_n 0, 1) := dk_42 (dk_at dksX7_widowLine_1 7 rfl rfl)
theorem dX7_widowLine_32 : decode cX7_widowLine 32 = .ok (.ldc 126, 2) := dk_18 126 (dk_at dksX7_widowLine_1 8 rfl rfl)
theorem dX7_widowLine_34 : decode cX7_widowLine 34 = .ok (.iconst 0, 1) := dk_3 (dk_at dksX7_widowLine_1 10 rfl rfl)
theorem dX7_widowLine_35 : decode cX7_widowLine 35 = .ok (.bipush 11, 2) := dk_16 11 (dk_at dksX7_widowLine_1 11 rfl rfl)
theorem dX7_widowLine_37 : decode cX7_widowLine 37 = .ok (.invokevirtual 121, 3) := dk_182 0 121 (dk_at dksX7_widowLine_1 13 rfl rfl)
theorem dX7_widowLine_40 : decode cX7_widowLine 40 = .ok (.istore 4, 2) := dk_54 4 (dk_at dksX7_widowLine_1 16 rfl rfl)
theorem dX7_widowLine_42 : decode cX7_widowLine 42 = .ok (.aload_n 0, 1) := dk_42 (dk_at dksX7_widowLine_1 18 rfl rfl)
theorem dX7_widowLine_43 : decode cX7_widowLine 43 = .ok (.ldc 127, 2) := dk_18 127 (dk_at dksX7_widowLine_1 19 rfl rfl)
theorem dX7_widowLine_45 : decode cX7_widowLine 45 = .ok (.invokevirtual 79, 3) := dk_182 0 79 (dk_at dksX7_widowLine_1 21 rfl rfl)
theorem dX7_widowLine_48 : decode cX7_widowLine 48 = .ok (.ifCond .eq 11, 3) := dk_153 0 11 (dk_at dksX7_widowLine_2 0 rfl rfl)
theorem dX7_widowLine_51 : decode cX7_widowLine 51 = .ok (.aload_n 0, 1) := dk_42 (dk_at dksX7_widowLine_2 3 rfl rfl)
theorem dX7_widowLine_52 : decode cX7_widowLine 52 = .ok (.invokevirtual 129, 3) := dk_182 0 129 (dk_at dksX7_widowLine_2 4 rfl rfl)
theorem dX7_widowLine_55 : decode cX7_widowLine 55 = .ok (.iconst (-1), 1) := dk_2 (dk_at dksX7_widowLine_2 7 rfl rfl)
theorem dX7_widowLine_56 : decode cX7_widowLine 56 = .ok (.if_icmp .ne 9, 3) := dk_160 0 9 (dk_at dksX7_widowLine_2 8 rfl rfl)
theorem dX7_widowLine_59 : decode cX7_widowLine 59 = .ok (.aload_n 0, 1) := dk_42 (dk_at dksX7_widowLine_2 11 rfl rfl)
theorem dX7_widowLine_60 : decode cX7_widowLine 60 = .ok (.iconst 1, 1) := dk_4 (dk_at dksX7_widowLine_2 12 rfl rfl)
theorem dX7_widowLine_61 : decode cX7_widowLine 61 = .ok (.invokevirtual 75, 3) := dk_182 0 75 (dk_at dksX7_widowLine_2 13 rfl rfl)
theorem dX7_widowLine_64 : decode cX7_widowLine 64 = .ok (.athrow, 1) := dk_191 (dk_at dksX7_widowLine_2 16 rfl rfl)
theorem dX7_widowLine_65 : decode cX7_widowLine 65 = .ok (.bipush 8, 2) := dk_16 8 (dk_at dksX7_widowLine_2 17 rfl rfl)
theorem dX7_widowLine_67 : decode cX7_widowLine 67 = .ok (.newarray .int, 2) := dk_188_10 (dk_at dksX7_widowLine_2 19 rfl rfl)
theorem dX7_widowLine_69 : decode cX7_widowLine 69 = .ok (.astore 5, 2) := dk_58 5 (dk_at dksX7_widowLine_2 21 rfl rfl)
theorem dX7_widowLine_71 : decode cX7_widowLine 71 = .ok (.iconst 0, 1) := dk_3 (dk_at dksX7_widowLine_2 23 rfl rfl)
theorem dX7_widowLine_72 : decode cX7_widowLine 72 = .ok (.istore 6, 2) := dk_54 6 (dk_at dksX7_widowLine_3 0 rfl rfl)
theorem dX7_widowLine_74 : decode cX7_widowLine 74 = .ok (.aload_n 0, 1) := dk_42 (dk_at dksX7_widowLine_3 2 rfl rfl)
theorem dX7_widowLine_75 : decode cX7_widowLine 75 = .ok (.invokevirtual 129, 3) := dk_182 0 129 (dk_at dksX7_widowLine_3 3 rfl rfl)
theorem dX7_widowLine_78 : decode cX7_widowLine 78 = .ok (.iconst (-1), 1) := dk_2 (dk_at dksX7_widowLine_3 6 rfl rfl)
theorem dX7_widowLine_79 : decode cX7_widowLine 79 = .ok (.if_icmp .eq 35, 3) := dk_159 0 35 (dk_at dksX7_widowLine_3 7 rfl rfl)
theorem dX7_widowLine_82 : decode cX7_widowLine 82 = .ok (.iload 6, 2) := dk_21 6 (dk_at dksX7_widowLine_3 10 rfl rfl)
theorem dX7_widowLine_84 : decode cX7_widowLine 84 = .ok (.bipush 8, 2) := dk_16 8 (dk_at dksX7_widowLine_3 12 rfl rfl)
theorem dX7_widowLine_86 : decode cX7_widowLine 86 = .ok (.if_icmp .ne 9, 3) := dk_160 0 9 (dk_at dksX7_widowLine_3 14 rfl rfl)
theorem dX7_widowLine_89 : decode cX7_widowLine 89 = .ok (.aload_n 0, 1) := dk_42 (dk_at dksX7_widowLine_3 17 rfl rfl)
theorem dX7_widowLine_90 : decode cX7_widowLine 90 = .ok (.iconst 3, 1) := dk_6 (dk_at dksX7_widowLine_3 18 rfl rfl)
theorem dX7_widowLine_91 : decode cX7_widowLine 91 = .ok (.invokevirtual 75, 3) := dk_182 0 75 (dk_at dksX7_widowLine_3 19 rfl rfl)
theorem dX7_widowLine_94 : decode cX7_widowLine 94 = .ok (.athrow, 1) := dk_191 (dk_at dksX7_widowLine_3 22 rfl rfl)
theorem dX7_widowLine_95 : decode cX7_widowLine 95 = .ok (.aload 5, 2) := dk_25 5 (dk_at dksX7_widowLine_4 0 rfl rfl)
theorem dX7_widowLine_97 : decode cX7_widowLine 97 = .ok (.iload 6, 2) := dk_21 6 (dk_at dksX7_widowLine_4 2 rfl rfl)
theorem dX7_widowLine_99 : decode cX7_widowLine 99 = .ok (.aload_n 0, 1) := dk_42 (dk_at dksX7_widowLine_4 4 rfl rfl)
theorem dX7_widowLine_100 : decode cX7_widowLine 100 = .ok (.invokevirtual 129, 3) := dk_182 0 129 (dk_at dksX7_widowLine_4 5 rfl rfl)
theorem dX7_widowLine_103 : decode cX7_widowLine 103 = .ok (.iastore, 1) := dk_79 (dk_at dksX7_widowLine_4 8 rfl rfl)
theorem dX7_widowLine_104 : decode cX7_widowLine 104 = .ok (.aload_n 0, 1) := dk_42 (dk_at dksX7_widowLine_4 9 rfl rfl)
theorem dX7_widowLine_105 : decode cX7_widowLine 105 = .ok (.invokevirtual 26, 3) := dk_182 0 26 (dk_at dksX7_widowLine_4 10 rfl rfl)
theorem dX7_widowLine_108 : decode cX7_widowLine 108 = .ok (.iinc 6 1, 3) := dk_132 6 1 (dk_at dksX7_widowLine_4 13 rfl rfl)
theorem dX7_widowLine_111 : decode cX7_widowLine 111 = .ok (.goto (-37), 3) := dk_167 255 219 (dk_at dksX7_widowLine_4 16 rfl rfl)
theorem dX7_widowLine_114 : decode cX7_widowLine 114 = .ok (.aload_n 0, 1) := dk_42 (dk_at dksX7_widowLine_4 19 rfl rfl)
theorem dX7_widowLine_115 : decode cX7_widowLine 115 = .ok (.getfield 12, 3) := dk_180 0 12 (dk_at dksX7_widowLine_4 20 rfl rfl)
theorem dX7_widowLine_118 : decode cX7_widowLine 118 = .ok (.getfield 132, 3) := dk_180 0 132 (dk_at dksX7_widowLine_5 0 rfl rfl)
theorem dX7_widowLine_121 : decode cX7_widowLine 121 = .ok (.new 135, 3) := dk_187 0 135 (dk_at dksX7_widowLine_5 3 rfl rfl)
theorem dX7_widowLine_124 : decode cX7_widowLine 124 = .ok (.dup, 1) := dk_89 (dk_at dksX7_widowLine_5 6 rfl rfl)
theorem dX7_widowLine_125 : decode cX7_widowLine 125 = .ok (.iload_n 1, 1) := dk_27 (dk_at dksX7_widowLine_5 7 rfl rfl)
theorem dX7_widowLine_126 : decode cX7_widowLine 126 = .ok (.iload_n 2, 1) := dk_28 (dk_at dksX7_widowLine_5 8 rfl rfl)
theorem dX7_widowLine_127 : decode cX7_widowLine 127 = .ok (.iload_n 3, 1) := dk_29 (dk_at dksX7_widowLine_5 9 rfl rfl)
theorem dX7_widowLine_128 : decode cX7_widowLine 128 = .ok (.iload 4, 2) := dk_21 4 (dk_at dksX7_widowLine_5 10 rfl rfl)
theorem dX7_widowLine_130 : decode cX7_widowLine 130 = .ok (.aload 5, 2) := dk_25 5 (dk_at dksX7_widowLine_5 12 rfl rfl)
theorem dX7_widowLine_132 : decode cX7_widowLine 132 = .ok (.iload 6, 2) := dk_21 6 (dk_at dksX7_widowLine_5 14 rfl rfl)
theorem dX7_widowLine_134 : decode cX7_widowLine 134 = .ok (.invokespecial 137, 3) := dk_183 0 137 (dk_at dksX7_widowLine_5 16 rfl rfl)
theorem dX7_widowLine_137 : decode cX7_widowLine 137 = .ok (.invokeinterface 140 2, 5) := by decide +kernel
theorem dX7_widowLine_142 : decode cX7_widowLine 142 = .ok (.pop, 1) := dk_87 (dk_at dksX7_widowLine_6 0 rfl rfl)
theorem dX7_widowLine_143 : decode cX7_widowLine 143 = .ok (.return_, 1) := dk_177 (dk_at dksX7_widowLine_6 1 rfl rfl)
abbrev cX7_turnHere : ByteArray := prog_6_method_11_code
def yX7_turnHere : MethodName := ⟨RX7, "turnHere", "()I"⟩
def dkwX7_turnHere_2 : List UInt8 := [153, 0, 7, 6, 167, 0, 4, 2, 172]
abbrev dktX7_turnHere_2 : List UInt8 := dkwX7_turnHere_2 ++ []
def dkwX7_turnHere_1 : List UInt8 := [167, 0, 30, 42, 18, 111, 182, 0, 71, 153, 0, 7, 5, 167, 0, 17, 42, 18, 113, 182, 0, 71]
abbrev dktX7_turnHere_1 : List UInt8 := dkwX7_turnHere_1 ++ dktX7_turnHere_2
def dkwX7_turnHere_0 : List UInt8 := [42, 18, 107, 182, 0, 71, 153, 0, 7, 3, 167, 0, 43, 42, 18, 109, 182, 0, 71, 153, 0, 7, 4]
abbrev dktX7_turnHere_0 : List UInt8 := dkwX7_turnHere_0 ++ dktX7_turnHere_1
theorem dksX7_turnHere_0 : cX7_turnHere.data.toList.drop 0 = dktX7_turnHere_0 := by decide +kernel
theorem dksX7_turnHere_1 : cX7_turnHere.data.toList.drop 23 = dktX7_turnHere_1 := dk_seg dksX7_turnHere_0 23 rfl rfl
theorem dksX7_turnHere_2 : cX7_turnHere.data.toList.drop 45 = dktX7_turnHere_2 := dk_seg dksX7_turnHere_1 22 rfl rfl
theorem dX7_turnHere_0 : decode cX7_turnHere 0 = .ok (.aload_n 0, 1) := dk_42 (dk_at dksX7_turnHere_0 0 rfl rfl)
theorem dX7_turnHere_1 : decode cX7_turnHere 1 = .ok (.ldc 107, 2) := dk_18 107 (dk_at dksX7_turnHere_0 1 rfl rfl)
theorem dX7_turnHere_3 : decode cX7_turnHere 3 = .ok (.invokevirtual 71, 3) := dk_182 0 71 (dk_at dksX7_turnHere_0 3 rfl rfl)
theorem dX7_turnHere_6 : decode cX7_turnHere 6 = .ok (.ifCond .eq 7, 3) := dk_153 0 7 (dk_at dksX7_turnHere_0 6 rfl rfl)
theorem dX7_turnHere_9 : decode cX7_turnHere 9 = .ok (.iconst 0, 1) := dk_3 (dk_at dksX7_turnHere_0 9 rfl rfl)
theorem dX7_turnHere_10 : decode cX7_turnHere 10 = .ok (.goto 43, 3) := dk_167 0 43 (dk_at dksX7_turnHere_0 10 rfl rfl)
theorem dX7_turnHere_13 : decode cX7_turnHere 13 = .ok (.aload_n 0, 1) := dk_42 (dk_at dksX7_turnHere_0 13 rfl rfl)
theorem dX7_turnHere_14 : decode cX7_turnHere 14 = .ok (.ldc 109, 2) := dk_18 109 (dk_at dksX7_turnHere_0 14 rfl rfl)
theorem dX7_turnHere_16 : decode cX7_turnHere 16 = .ok (.invokevirtual 71, 3) := dk_182 0 71 (dk_at dksX7_turnHere_0 16 rfl rfl)
theorem dX7_turnHere_19 : decode cX7_turnHere 19 = .ok (.ifCond .eq 7, 3) := dk_153 0 7 (dk_at dksX7_turnHere_0 19 rfl rfl)
theorem dX7_turnHere_22 : decode cX7_turnHere 22 = .ok (.iconst 1, 1) := dk_4 (dk_at dksX7_turnHere_0 22 rfl rfl)
theorem dX7_turnHere_23 : decode cX7_turnHere 23 = .ok (.goto 30, 3) := dk_167 0 30 (dk_at dksX7_turnHere_1 0 rfl rfl)
theorem dX7_turnHere_26 : decode cX7_turnHere 26 = .ok (.aload_n 0, 1) := dk_42 (dk_at dksX7_turnHere_1 3 rfl rfl)
theorem dX7_turnHere_27 : decode cX7_turnHere 27 = .ok (.ldc 111, 2) := dk_18 111 (dk_at dksX7_turnHere_1 4 rfl rfl)
theorem dX7_turnHere_29 : decode cX7_turnHere 29 = .ok (.invokevirtual 71, 3) := dk_182 0 71 (dk_at dksX7_turnHere_1 6 rfl rfl)
theorem dX7_turnHere_32 : decode cX7_turnHere 32 = .ok (.ifCond .eq 7, 3) := dk_153 0 7 (dk_at dksX7_turnHere_1 9 rfl rfl)
theorem dX7_turnHere_35 : decode cX7_turnHere 35 = .ok (.iconst 2, 1) := dk_5 (dk_at dksX7_turnHere_1 12 rfl rfl)
theorem dX7_turnHere_36 : decode cX7_turnHere 36 = .ok (.goto 17, 3) := dk_167 0 17 (dk_at dksX7_turnHere_1 13 rfl rfl)
theorem dX7_turnHere_39 : decode cX7_turnHere 39 = .ok (.aload_n 0, 1) := dk_42 (dk_at dksX7_turnHere_1 16 rfl rfl)
theorem dX7_turnHere_40 : decode cX7_turnHere 40 = .ok (.ldc 113, 2) := dk_18 113 (dk_at dksX7_turnHere_1 17 rfl rfl)
theorem dX7_turnHere_42 : decode cX7_turnHere 42 = .ok (.invokevirtual 71, 3) := dk_182 0 71 (dk_at dksX7_turnHere_1 19 rfl rfl)
theorem dX7_turnHere_45 : decode cX7_turnHere 45 = .ok (.ifCond .eq 7, 3) := dk_153 0 7 (dk_at dksX7_turnHere_2 0 rfl rfl)
theorem dX7_turnHere_48 : decode cX7_turnHere 48 = .ok (.iconst 3, 1) := dk_6 (dk_at dksX7_turnHere_2 3 rfl rfl)
theorem dX7_turnHere_49 : decode cX7_turnHere 49 = .ok (.goto 4, 3) := dk_167 0 4 (dk_at dksX7_turnHere_2 4 rfl rfl)
theorem dX7_turnHere_52 : decode cX7_turnHere 52 = .ok (.iconst (-1), 1) := dk_2 (dk_at dksX7_turnHere_2 7 rfl rfl)
theorem dX7_turnHere_53 : decode cX7_turnHere 53 = .ok (.ireturn, 1) := dk_172 (dk_at dksX7_turnHere_2 8 rfl rfl)
theorem q151 : (Jvm.Cond.initialized "WidowRoads$Reader") ∈ lw_all := lw_g (lw_at lw_m1 11 rfl) rfl
theorem q438 : (Jvm.Cond.fieldLinkNest "WidowRoads$Reader" (91 : Nat) "WidowRoads$Colony" "creeks" "Ljava/util/List;" "WidowRoads") ∈ lw_tbl := lw_at lw_m2 58 rfl
theorem q442 : (Jvm.Cond.fieldLinkNest "WidowRoads$Reader" (154 : Nat) "WidowRoads$Colony" "houses" "Ljava/util/List;" "WidowRoads") ∈ lw_tbl := lw_at lw_m2 62 rfl
theorem q445 : (Jvm.Cond.fieldLinkNest "WidowRoads$Reader" (132 : Nat) "WidowRoads$Colony" "widows" "Ljava/util/List;" "WidowRoads") ∈ lw_tbl := lw_at lw_m2 65 rfl
theorem q452 : (Jvm.Cond.fieldLinkNest "WidowRoads$Reader" (166 : Nat) "WidowRoads$Colony" "years" "I" "WidowRoads") ∈ lw_tbl := lw_at lw_m2 72 rfl
theorem q456 : (Jvm.Cond.fieldLinkNest "WidowRoads$Reader" (170 : Nat) "WidowRoads$Colony" "law" "I" "WidowRoads") ∈ lw_tbl := lw_at lw_m2 76 rfl
theorem q459 : (Jvm.Cond.fieldLinkNest "WidowRoads$Reader" (174 : Nat) "WidowRoads$Colony" "odds" "I" "WidowRoads") ∈ lw_tbl := lw_at lw_m2 79 rfl
theorem q463 : (Jvm.Cond.fieldLinkNest "WidowRoads$Reader" (85 : Nat) "WidowRoads$Colony" "wide" "I" "WidowRoads") ∈ lw_tbl := lw_at lw_m2 83 rfl
theorem q467 : (Jvm.Cond.fieldLinkNest "WidowRoads$Reader" (88 : Nat) "WidowRoads$Colony" "high" "I" "WidowRoads") ∈ lw_tbl := lw_at lw_m2 87 rfl
theorem q471 : (Jvm.Cond.fieldLinkNest "WidowRoads$Reader" (178 : Nat) "WidowRoads$Colony" "lines" "I" "WidowRoads") ∈ lw_tbl := lw_at lw_m2 91 rfl
theorem q665 : (Jvm.Cond.instantiable "WidowRoads$Reader" (7 : Nat)) ∈ lw_all := lw_g (lw_at lw_m3 45 rfl) rfl
theorem q667 : (Jvm.Cond.instanceMethod ({ cls := "WidowRoads$Reader", name := "<init>", desc := "([BI)V" } : Jvm.MethodName)) ∈ lw_all := lw_g (lw_at lw_m3 47 rfl) rfl
theorem q668 : (Jvm.Cond.code ({ cls := "WidowRoads$Reader", name := "<init>", desc := "([BI)V" } : Jvm.MethodName) prog_6_method_1_code (3 : Nat) (Option.none : Option Jvm.ClassFile.FieldType)) ∈ lw_all := lw_g (lw_at lw_m3 48 rfl) rfl
theorem q669 : (Jvm.Cond.methodLink "WidowRoads$Reader" (3 : Nat) ({ cls := "java/lang/Object", name := "<init>", desc := "()V" } : Jvm.MethodName)) ∈ lw_all := lw_g (lw_at lw_m3 49 rfl) rfl
theorem q670 : (Jvm.Cond.classLink "WidowRoads$Reader" (9 : Nat) "WidowRoads$Colony") ∈ lw_all := lw_g (lw_at lw_m3 50 rfl) rfl
theorem q671 : (Jvm.Cond.methodLinkNest "WidowRoads$Reader" (11 : Nat) ({ cls := "WidowRoads$Colony", name := "<init>", desc := "()V" } : Jvm.MethodName) "WidowRoads") ∈ lw_tbl := lw_at lw_m3 51 rfl
theorem q672 : (Jvm.Cond.methodLink "WidowRoads$Reader" (26 : Nat) ({ cls := "WidowRoads$Reader", name := "next", desc := "()V" } : Jvm.MethodName)) ∈ lw_all := lw_g (lw_at lw_m3 52 rfl) rfl
theorem q673 : (Jvm.Cond.privateMethod ({ cls := "WidowRoads$Reader", name := "next", desc := "()V" } : Jvm.MethodName)) ∈ lw_tbl := lw_at lw_m3 53 rfl
theorem q674 : (Jvm.Cond.instanceMethod ({ cls := "WidowRoads$Reader", name := "next", desc := "()V" } : Jvm.MethodName)) ∈ lw_all := lw_g (lw_at lw_m3 54 rfl) rfl
theorem q675 : (Jvm.Cond.code ({ cls := "WidowRoads$Reader", name := "next", desc := "()V" } : Jvm.MethodName) prog_6_method_3_code (1 : Nat) (Option.none : Option Jvm.ClassFile.FieldType)) ∈ lw_all := lw_g (lw_at lw_m3 55 rfl) rfl
theorem q676 : (Jvm.Cond.methodLink "WidowRoads$Reader" (36 : Nat) ({ cls := "WidowRoads$Reader", name := "isAt", desc := "(II)Z" } : Jvm.MethodName)) ∈ lw_all := lw_g (lw_at lw_m3 56 rfl) rfl
theorem q677 : (Jvm.Cond.privateMethod ({ cls := "WidowRoads$Reader", name := "isAt", desc := "(II)Z" } : Jvm.MethodName)) ∈ lw_tbl := lw_at lw_m3 57 rfl
theorem q678 : (Jvm.Cond.instanceMethod ({ cls := "WidowRoads$Reader", name := "isAt", desc := "(II)Z" } : Jvm.MethodName)) ∈ lw_all := lw_g (lw_at lw_m3 58 rfl) rfl
theorem q679 : (Jvm.Cond.code ({ cls := "WidowRoads$Reader", name := "isAt", desc := "(II)Z" } : Jvm.MethodName) prog_6_method_2_code (3 : Nat) (Option.some Jvm.ClassFile.FieldType.boolean)) ∈ lw_all := lw_g (lw_at lw_m3 59 rfl) rfl
theorem q680 : (Jvm.Cond.methodLinkNest "WidowRoads$Reader" (32 : Nat) ({ cls := "WidowRoads", name := "in", desc := "(JJJ)Z" } : Jvm.MethodName) "WidowRoads") ∈ lw_tbl := lw_at lw_m3 60 rfl
theorem q681 : (Jvm.Cond.constant "WidowRoads$Reader" (49 : Nat) (99999 : Int32)) ∈ lw_all := lw_g (lw_at lw_m3 61 rfl) rfl
theorem q682 : (Jvm.Cond.methodLink "WidowRoads$Reader" (50 : Nat) ({ cls := "java/lang/Math", name := "min", desc := "(II)I" } : Jvm.MethodName)) ∈ lw_all := lw_g (lw_at lw_m3 62 rfl) rfl
theorem q685 : (Jvm.Cond.fieldLink "WidowRoads$Reader" (18 : Nat) "WidowRoads$Reader" "text" "[B") ∈ lw_all := lw_g (lw_at lw_m3 65 rfl) rfl
theorem q686 : (Jvm.Cond.fieldLink "WidowRoads$Reader" (22 : Nat) "WidowRoads$Reader" "many" "I") ∈ lw_all := lw_g (lw_at lw_m3 66 rfl) rfl
theorem q687 : (Jvm.Cond.fieldLink "WidowRoads$Reader" (12 : Nat) "WidowRoads$Reader" "c" "LWidowRoads$Colony;") ∈ lw_all := lw_g (lw_at lw_m3 67 rfl) rfl
theorem q688 : (Jvm.Cond.fieldLink "WidowRoads$Reader" (29 : Nat) "WidowRoads$Reader" "at" "I") ∈ lw_all := lw_g (lw_at lw_m3 68 rfl) rfl
theorem q689 : (Jvm.Cond.fieldLink "WidowRoads$Reader" (40 : Nat) "WidowRoads$Reader" "begin" "I") ∈ lw_all := lw_g (lw_at lw_m3 69 rfl) rfl
theorem q690 : (Jvm.Cond.fieldLink "WidowRoads$Reader" (46 : Nat) "WidowRoads$Reader" "token" "I") ∈ lw_all := lw_g (lw_at lw_m3 70 rfl) rfl
theorem q691 : (Jvm.Cond.fieldLink "WidowRoads$Reader" (43 : Nat) "WidowRoads$Reader" "value" "I") ∈ lw_all := lw_g (lw_at lw_m3 71 rfl) rfl
theorem q692 : (Jvm.Cond.laysFinal "WidowRoads$Reader" "WidowRoads$Reader" "text" "[B") ∈ lw_all := lw_g (lw_at lw_m3 72 rfl) rfl
theorem q693 : (Jvm.Cond.soleField "WidowRoads$Reader" "text") ∈ lw_all := lw_g (lw_at lw_m3 73 rfl) rfl
theorem q694 : (Jvm.Cond.laysFinal "WidowRoads$Reader" "WidowRoads$Reader" "many" "I") ∈ lw_all := lw_g (lw_at lw_m3 74 rfl) rfl
theorem q695 : (Jvm.Cond.soleField "WidowRoads$Reader" "many") ∈ lw_all := lw_g (lw_at lw_m3 75 rfl) rfl
theorem q696 : (Jvm.Cond.laysFinal "WidowRoads$Reader" "WidowRoads$Reader" "c" "LWidowRoads$Colony;") ∈ lw_all := lw_g (lw_at lw_m3 76 rfl) rfl
theorem q697 : (Jvm.Cond.soleField "WidowRoads$Reader" "c") ∈ lw_all := lw_g (lw_at lw_m3 77 rfl) rfl
theorem q698 : (Jvm.Cond.lays "WidowRoads$Reader" "WidowRoads$Reader" "at" "I") ∈ lw_all := lw_g (lw_at lw_m3 78 rfl) rfl
theorem q699 : (Jvm.Cond.soleField "WidowRoads$Reader" "at") ∈ lw_all := lw_g (lw_at lw_m3 79 rfl) rfl
theorem q700 : (Jvm.Cond.lays "WidowRoads$Reader" "WidowRoads$Reader" "begin" "I") ∈ lw_all := lw_g (lw_at lw_m3 80 rfl) rfl
theorem q701 : (Jvm.Cond.soleField "WidowRoads$Reader" "begin") ∈ lw_all := lw_g (lw_at lw_m3 81 rfl) rfl
theorem q702 : (Jvm.Cond.lays "WidowRoads$Reader" "WidowRoads$Reader" "token" "I") ∈ lw_all := lw_g (lw_at lw_m3 82 rfl) rfl
theorem q703 : (Jvm.Cond.soleField "WidowRoads$Reader" "token") ∈ lw_all := lw_g (lw_at lw_m3 83 rfl) rfl
theorem q704 : (Jvm.Cond.lays "WidowRoads$Reader" "WidowRoads$Reader" "value" "I") ∈ lw_all := lw_g (lw_at lw_m3 84 rfl) rfl
theorem q705 : (Jvm.Cond.soleField "WidowRoads$Reader" "value") ∈ lw_all := lw_g (lw_at lw_m3 85 rfl) rfl
theorem q706 : (Jvm.Cond.superclass "WidowRoads$Reader" "java/lang/Object") ∈ lw_all := lw_g (lw_at lw_m3 86 rfl) rfl
theorem q708 : (Jvm.Cond.instanceMethod ({ cls := "WidowRoads$Reader", name := "reads", desc := "()LWidowRoads$Colony;" } : Jvm.MethodName)) ∈ lw_all := lw_g (lw_at lw_m3 88 rfl) rfl
theorem q709 : (Jvm.Cond.selects "WidowRoads$Reader" ({ cls := "WidowRoads$Reader", name := "reads", desc := "()LWidowRoads$Colony;" } : Jvm.MethodName) ({ cls := "WidowRoads$Reader", name := "reads", desc := "()LWidowRoads$Colony;" } : Jvm.MethodName)) ∈ lw_all := lw_g (lw_at lw_m3 89 rfl) rfl
theorem q710 : (Jvm.Cond.code ({ cls := "WidowRoads$Reader", name := "reads", desc := "()LWidowRoads$Colony;" } : Jvm.MethodName) prog_6_method_15_code (1 : Nat) (Option.some (Jvm.ClassFile.FieldType.object "WidowRoads$Colony"))) ∈ lw_all := lw_g (lw_at lw_m3 90 rfl) rfl
theorem q711 : (Jvm.Cond.methodLink "WidowRoads$Reader" (181 : Nat) ({ cls := "WidowRoads$Reader", name := "colonyLine", desc := "()V" } : Jvm.MethodName)) ∈ lw_all := lw_g (lw_at lw_m3 91 rfl) rfl
theorem q712 : (Jvm.Cond.privateMethod ({ cls := "WidowRoads$Reader", name := "colonyLine", desc := "()V" } : Jvm.MethodName)) ∈ lw_tbl := lw_at lw_m3 92 rfl
theorem q713 : (Jvm.Cond.instanceMethod ({ cls := "WidowRoads$Reader", name := "colonyLine", desc := "()V" } : Jvm.MethodName)) ∈ lw_all := lw_g (lw_at lw_m3 93 rfl) rfl
theorem q714 : (Jvm.Cond.code ({ cls := "WidowRoads$Reader", name := "colonyLine", desc := "()V" } : Jvm.MethodName) prog_6_method_14_code (1 : Nat) (Option.none : Option Jvm.ClassFile.FieldType)) ∈ lw_all := lw_g (lw_at lw_m3 94 rfl) rfl
theorem q715 : (Jvm.Cond.stringRef "WidowRoads$Reader" (162 : Nat) "colony") ∈ lw_tbl := lw_at lw_m3 95 rfl
theorem q716 : (Jvm.Cond.methodLink "WidowRoads$Reader" (79 : Nat) ({ cls := "WidowRoads$Reader", name := "takes", desc := "(Ljava/lang/String;)Z" } : Jvm.MethodName)) ∈ lw_all := lw_g (lw_at lw_m3 96 rfl) rfl
theorem q717 : (Jvm.Cond.privateMethod ({ cls := "WidowRoads$Reader", name := "takes", desc := "(Ljava/lang/String;)Z" } : Jvm.MethodName)) ∈ lw_tbl := lw_at lw_m3 97 rfl
theorem q718 : (Jvm.Cond.instanceMethod ({ cls := "WidowRoads$Reader", name := "takes", desc := "(Ljava/lang/String;)Z" } : Jvm.MethodName)) ∈ lw_all := lw_g (lw_at lw_m3 98 rfl) rfl
theorem q719 : (Jvm.Cond.code ({ cls := "WidowRoads$Reader", name := "takes", desc := "(Ljava/lang/String;)Z" } : Jvm.MethodName) prog_6_method_6_code (3 : Nat) (Option.some Jvm.ClassFile.FieldType.boolean)) ∈ lw_all := lw_g (lw_at lw_m3 99 rfl) rfl
theorem q720 : (Jvm.Cond.methodLink "WidowRoads$Reader" (71 : Nat) ({ cls := "WidowRoads$Reader", name := "is", desc := "(Ljava/lang/String;)Z" } : Jvm.MethodName)) ∈ lw_all := lw_g (lw_at lw_m3 100 rfl) rfl
theorem q721 : (Jvm.Cond.privateMethod ({ cls := "WidowRoads$Reader", name := "is", desc := "(Ljava/lang/String;)Z" } : Jvm.MethodName)) ∈ lw_tbl := lw_at lw_m3 101 rfl
theorem q722 : (Jvm.Cond.instanceMethod ({ cls := "WidowRoads$Reader", name := "is", desc := "(Ljava/lang/String;)Z" } : Jvm.MethodName)) ∈ lw_all := lw_g (lw_at lw_m3 102 rfl) rfl
theorem q723 : (Jvm.Cond.code ({ cls := "WidowRoads$Reader", name := "is", desc := "(Ljava/lang/String;)Z" } : Jvm.MethodName) prog_6_method_5_code (3 : Nat) (Option.some Jvm.ClassFile.FieldType.boolean)) ∈ lw_all := lw_g (lw_at lw_m3 103 rfl) rfl
theorem q724 : (Jvm.Cond.methodLink "WidowRoads$Reader" (61 : Nat) ({ cls := "java/lang/String", name := "length", desc := "()I" } : Jvm.MethodName)) ∈ lw_all := lw_g (lw_at lw_m3 104 rfl) rfl
theorem q734 : (Jvm.Cond.methodLink "WidowRoads$Reader" (67 : Nat) ({ cls := "java/lang/String", name := "charAt", desc := "(I)C" } : Jvm.MethodName)) ∈ lw_all := lw_g (lw_at lw_m3 114 rfl) rfl
theorem q772 : (Jvm.Cond.methodLink "WidowRoads$Reader" (75 : Nat) ({ cls := "WidowRoads$Reader", name := "fault", desc := "(I)LWidowRoads$Fault;" } : Jvm.MethodName)) ∈ lw_all := lw_g (lw_at lw_m3 152 rfl) rfl
theorem q773 : (Jvm.Cond.privateMethod ({ cls := "WidowRoads$Reader", name := "fault", desc := "(I)LWidowRoads$Fault;" } : Jvm.MethodName)) ∈ lw_tbl := lw_at lw_m3 153 rfl
theorem q774 : (Jvm.Cond.instanceMethod ({ cls := "WidowRoads$Reader", name := "fault", desc := "(I)LWidowRoads$Fault;" } : Jvm.MethodName)) ∈ lw_all := lw_g (lw_at lw_m3 154 rfl) rfl
theorem q775 : (Jvm.Cond.code ({ cls := "WidowRoads$Reader", name := "fault", desc := "(I)LWidowRoads$Fault;" } : Jvm.MethodName) prog_6_method_4_code (2 : Nat) (Option.some (Jvm.ClassFile.FieldType.object "WidowRoads$Fault"))) ∈ lw_all := lw_g (lw_at lw_m3 155 rfl) rfl
theorem q776 : (Jvm.Cond.classLink "WidowRoads$Reader" (56 : Nat) "WidowRoads$Fault") ∈ lw_all := lw_g (lw_at lw_m3 156 rfl) rfl
theorem q785 : (Jvm.Cond.methodLink "WidowRoads$Reader" (58 : Nat) ({ cls := "WidowRoads$Fault", name := "<init>", desc := "(II)V" } : Jvm.MethodName)) ∈ lw_all := lw_g (lw_at lw_m3 165 rfl) rfl
theorem q807 : (Jvm.Cond.stringRef "WidowRoads$Reader" (164 : Nat) "years") ∈ lw_tbl := lw_at lw_m3 187 rfl
theorem q808 : (Jvm.Cond.methodLink "WidowRoads$Reader" (121 : Nat) ({ cls := "WidowRoads$Reader", name := "number", desc := "(Ljava/lang/String;II)I" } : Jvm.MethodName)) ∈ lw_all := lw_g (lw_at lw_m3 188 rfl) rfl
theorem q809 : (Jvm.Cond.privateMethod ({ cls := "WidowRoads$Reader", name := "number", desc := "(Ljava/lang/String;II)I" } : Jvm.MethodName)) ∈ lw_tbl := lw_at lw_m3 189 rfl
theorem q810 : (Jvm.Cond.instanceMethod ({ cls := "WidowRoads$Reader", name := "number", desc := "(Ljava/lang/String;II)I" } : Jvm.MethodName)) ∈ lw_all := lw_g (lw_at lw_m3 190 rfl) rfl
theorem q811 : (Jvm.Cond.code ({ cls := "WidowRoads$Reader", name := "number", desc := "(Ljava/lang/String;II)I" } : Jvm.MethodName) prog_6_method_8_code (4 : Nat) (Option.some Jvm.ClassFile.FieldType.int)) ∈ lw_all := lw_g (lw_at lw_m3 191 rfl) rfl
theorem q812 : (Jvm.Cond.methodLink "WidowRoads$Reader" (82 : Nat) ({ cls := "WidowRoads$Reader", name := "number", desc := "(II)I" } : Jvm.MethodName)) ∈ lw_all := lw_g (lw_at lw_m3 192 rfl) rfl
theorem q813 : (Jvm.Cond.privateMethod ({ cls := "WidowRoads$Reader", name := "number", desc := "(II)I" } : Jvm.MethodName)) ∈ lw_tbl := lw_at lw_m3 193 rfl
theorem q814 : (Jvm.Cond.instanceMethod ({ cls := "WidowRoads$Reader", name := "number", desc := "(II)I" } : Jvm.MethodName)) ∈ lw_all := lw_g (lw_at lw_m3 194 rfl) rfl
theorem q815 : (Jvm.Cond.code ({ cls := "WidowRoads$Reader", name := "number", desc := "(II)I" } : Jvm.MethodName) prog_6_method_7_code (4 : Nat) (Option.some Jvm.ClassFile.FieldType.int)) ∈ lw_all := lw_g (lw_at lw_m3 195 rfl) rfl
theorem q816 : (Jvm.Cond.stringRef "WidowRoads$Reader" (168 : Nat) "law") ∈ lw_tbl := lw_at lw_m3 196 rfl
theorem q817 : (Jvm.Cond.stringRef "WidowRoads$Reader" (172 : Nat) "odds") ∈ lw_tbl := lw_at lw_m3 197 rfl
theorem q818 : (Jvm.Cond.stringRef "WidowRoads$Reader" (176 : Nat) "wide") ∈ lw_tbl := lw_at lw_m3 198 rfl
theorem q819 : (Jvm.Cond.stringRef "WidowRoads$Reader" (177 : Nat) "high") ∈ lw_tbl := lw_at lw_m3 199 rfl
theorem q820 : (Jvm.Cond.methodLink "WidowRoads$Reader" (184 : Nat) ({ cls := "WidowRoads$Reader", name := "toldLine", desc := "()V" } : Jvm.MethodName)) ∈ lw_all := lw_g (lw_at lw_m3 200 rfl) rfl
theorem q821 : (Jvm.Cond.privateMethod ({ cls := "WidowRoads$Reader", name := "toldLine", desc := "()V" } : Jvm.MethodName)) ∈ lw_tbl := lw_at lw_m3 201 rfl
theorem q822 : (Jvm.Cond.instanceMethod ({ cls := "WidowRoads$Reader", name := "toldLine", desc := "()V" } : Jvm.MethodName)) ∈ lw_all := lw_g (lw_at lw_m3 202 rfl) rfl
theorem q823 : (Jvm.Cond.code ({ cls := "WidowRoads$Reader", name := "toldLine", desc := "()V" } : Jvm.MethodName) prog_6_method_13_code (1 : Nat) (Option.none : Option Jvm.ClassFile.FieldType)) ∈ lw_all := lw_g (lw_at lw_m3 203 rfl) rfl
theorem q824 : (Jvm.Cond.stringRef "WidowRoads$Reader" (143 : Nat) "creek") ∈ lw_tbl := lw_at lw_m3 204 rfl
theorem q825 : (Jvm.Cond.interfaceEntry "WidowRoads$Reader" (145 : Nat)) ∈ lw_tbl := lw_at lw_m3 205 rfl
theorem q826 : (Jvm.Cond.methodLink "WidowRoads$Reader" (145 : Nat) ({ cls := "java/util/List", name := "size", desc := "()I" } : Jvm.MethodName)) ∈ lw_all := lw_g (lw_at lw_m3 206 rfl) rfl
theorem q835 : (Jvm.Cond.methodLink "WidowRoads$Reader" (148 : Nat) ({ cls := "WidowRoads$Reader", name := "line", desc := "(Ljava/lang/String;II)Z" } : Jvm.MethodName)) ∈ lw_all := lw_g (lw_at lw_m3 215 rfl) rfl
theorem q836 : (Jvm.Cond.privateMethod ({ cls := "WidowRoads$Reader", name := "line", desc := "(Ljava/lang/String;II)Z" } : Jvm.MethodName)) ∈ lw_tbl := lw_at lw_m3 216 rfl
theorem q837 : (Jvm.Cond.instanceMethod ({ cls := "WidowRoads$Reader", name := "line", desc := "(Ljava/lang/String;II)Z" } : Jvm.MethodName)) ∈ lw_all := lw_g (lw_at lw_m3 217 rfl) rfl
theorem q838 : (Jvm.Cond.code ({ cls := "WidowRoads$Reader", name := "line", desc := "(Ljava/lang/String;II)Z" } : Jvm.MethodName) prog_6_method_9_code (4 : Nat) (Option.some Jvm.ClassFile.FieldType.boolean)) ∈ lw_all := lw_g (lw_at lw_m3 218 rfl) rfl
theorem q839 : (Jvm.Cond.methodLink "WidowRoads$Reader" (115 : Nat) ({ cls := "WidowRoads$Reader", name := "spotHere", desc := "(Ljava/util/List;)I" } : Jvm.MethodName)) ∈ lw_all := lw_g (lw_at lw_m3 219 rfl) rfl
theorem q840 : (Jvm.Cond.privateMethod ({ cls := "WidowRoads$Reader", name := "spotHere", desc := "(Ljava/util/List;)I" } : Jvm.MethodName)) ∈ lw_tbl := lw_at lw_m3 220 rfl
theorem q841 : (Jvm.Cond.instanceMethod ({ cls := "WidowRoads$Reader", name := "spotHere", desc := "(Ljava/util/List;)I" } : Jvm.MethodName)) ∈ lw_all := lw_g (lw_at lw_m3 221 rfl) rfl
theorem q842 : (Jvm.Cond.code ({ cls := "WidowRoads$Reader", name := "spotHere", desc := "(Ljava/util/List;)I" } : Jvm.MethodName) prog_6_method_10_code (3 : Nat) (Option.some Jvm.ClassFile.FieldType.int)) ∈ lw_all := lw_g (lw_at lw_m3 222 rfl) rfl
theorem q843 : (Jvm.Cond.methodLink "WidowRoads$Reader" (95 : Nat) ({ cls := "java/lang/Integer", name := "valueOf", desc := "(I)Ljava/lang/Integer;" } : Jvm.MethodName)) ∈ lw_all := lw_g (lw_at lw_m3 223 rfl) rfl
theorem q863 : (Jvm.Cond.interfaceEntry "WidowRoads$Reader" (101 : Nat)) ∈ lw_tbl := lw_at lw_m4 3 rfl
theorem q864 : (Jvm.Cond.methodLink "WidowRoads$Reader" (101 : Nat) ({ cls := "java/util/List", name := "contains", desc := "(Ljava/lang/Object;)Z" } : Jvm.MethodName)) ∈ lw_all := lw_g (lw_at lw_m4 4 rfl) rfl
theorem q889 : (Jvm.Cond.selects "WidowRoads$Reader" ({ cls := "java/lang/Object", name := "equals", desc := "(Ljava/lang/Object;)Z" } : Jvm.MethodName) ({ cls := "java/lang/Object", name := "equals", desc := "(Ljava/lang/Object;)Z" } : Jvm.MethodName)) ∈ lw_all := lw_g (lw_at lw_m4 29 rfl) rfl
theorem q914 : (Jvm.Cond.interfaceEntry "WidowRoads$Reader" (140 : Nat)) ∈ lw_tbl := lw_at lw_m4 54 rfl
theorem q915 : (Jvm.Cond.methodLink "WidowRoads$Reader" (140 : Nat) ({ cls := "java/util/List", name := "add", desc := "(Ljava/lang/Object;)Z" } : Jvm.MethodName)) ∈ lw_all := lw_g (lw_at lw_m4 55 rfl) rfl
theorem q956 : (Jvm.Cond.selects "WidowRoads$Reader" ({ cls := "java/lang/Object", name := "getClass", desc := "()Ljava/lang/Class;" } : Jvm.MethodName) ({ cls := "java/lang/Object", name := "getClass", desc := "()Ljava/lang/Class;" } : Jvm.MethodName)) ∈ lw_all := lw_g (lw_at lw_m4 96 rfl) rfl
theorem q978 : (Jvm.Cond.stringRef "WidowRoads$Reader" (152 : Nat) "house") ∈ lw_tbl := lw_at lw_m4 118 rfl
theorem q979 : (Jvm.Cond.stringRef "WidowRoads$Reader" (157 : Nat) "widow") ∈ lw_tbl := lw_at lw_m4 119 rfl
theorem q980 : (Jvm.Cond.methodLink "WidowRoads$Reader" (159 : Nat) ({ cls := "WidowRoads$Reader", name := "widowLine", desc := "()V" } : Jvm.MethodName)) ∈ lw_all := lw_g (lw_at lw_m4 120 rfl) rfl
theorem q981 : (Jvm.Cond.privateMethod ({ cls := "WidowRoads$Reader", name := "widowLine", desc := "()V" } : Jvm.MethodName)) ∈ lw_tbl := lw_at lw_m4 121 rfl
theorem q982 : (Jvm.Cond.instanceMethod ({ cls := "WidowRoads$Reader", name := "widowLine", desc := "()V" } : Jvm.MethodName)) ∈ lw_all := lw_g (lw_at lw_m4 122 rfl) rfl
theorem q983 : (Jvm.Cond.code ({ cls := "WidowRoads$Reader", name := "widowLine", desc := "()V" } : Jvm.MethodName) prog_6_method_12_code (7 : Nat) (Option.none : Option Jvm.ClassFile.FieldType)) ∈ lw_all := lw_g (lw_at lw_m4 123 rfl) rfl
theorem q984 : (Jvm.Cond.stringRef "WidowRoads$Reader" (119 : Nat) "faces") ∈ lw_tbl := lw_at lw_m4 124 rfl
theorem q985 : (Jvm.Cond.stringRef "WidowRoads$Reader" (124 : Nat) "steps") ∈ lw_tbl := lw_at lw_m4 125 rfl
theorem q986 : (Jvm.Cond.stringRef "WidowRoads$Reader" (126 : Nat) "at") ∈ lw_tbl := lw_at lw_m4 126 rfl
theorem q987 : (Jvm.Cond.stringRef "WidowRoads$Reader" (127 : Nat) "grief") ∈ lw_tbl := lw_at lw_m4 127 rfl
theorem q988 : (Jvm.Cond.methodLink "WidowRoads$Reader" (129 : Nat) ({ cls := "WidowRoads$Reader", name := "turnHere", desc := "()I" } : Jvm.MethodName)) ∈ lw_all := lw_g (lw_at lw_m4 128 rfl) rfl
theorem q989 : (Jvm.Cond.privateMethod ({ cls := "WidowRoads$Reader", name := "turnHere", desc := "()I" } : Jvm.MethodName)) ∈ lw_tbl := lw_at lw_m4 129 rfl
theorem q990 : (Jvm.Cond.instanceMethod ({ cls := "WidowRoads$Reader", name := "turnHere", desc := "()I" } : Jvm.MethodName)) ∈ lw_all := lw_g (lw_at lw_m4 130 rfl) rfl
theorem q991 : (Jvm.Cond.code ({ cls := "WidowRoads$Reader", name := "turnHere", desc := "()I" } : Jvm.MethodName) prog_6_method_11_code (1 : Nat) (Option.some Jvm.ClassFile.FieldType.int)) ∈ lw_all := lw_g (lw_at lw_m4 131 rfl) rfl
theorem q992 : (Jvm.Cond.stringRef "WidowRoads$Reader" (107 : Nat) "on") ∈ lw_tbl := lw_at lw_m4 132 rfl
theorem q993 : (Jvm.Cond.stringRef "WidowRoads$Reader" (109 : Nat) "right") ∈ lw_tbl := lw_at lw_m4 133 rfl
theorem q994 : (Jvm.Cond.stringRef "WidowRoads$Reader" (111 : Nat) "back") ∈ lw_tbl := lw_at lw_m4 134 rfl
theorem q995 : (Jvm.Cond.stringRef "WidowRoads$Reader" (113 : Nat) "left") ∈ lw_tbl := lw_at lw_m4 135 rfl
theorem q996 : (Jvm.Cond.classLink "WidowRoads$Reader" (135 : Nat) "WidowRoads$Widow") ∈ lw_all := lw_g (lw_at lw_m4 136 rfl) rfl
theorem q998 : (Jvm.Cond.methodLink "WidowRoads$Reader" (137 : Nat) ({ cls := "WidowRoads$Widow", name := "<init>", desc := "(IIII[II)V" } : Jvm.MethodName)) ∈ lw_all := lw_g (lw_at lw_m4 138 rfl) rfl
theorem q2594 : (Jvm.Cond.castable "WidowRoads$Reader" "java/lang/Object") ∈ lw_tbl := lw_at lw_m11 54 rfl
theorem in_X7 : ∀ w ∈ wsX70, w ∈ lw_all := lw_in wsX70 [692, 694, 696, 698, 700, 702, 704] (by decide +kernel) (by decide +kernel)
/-! WidowRoads$Fault -/
set_option maxRecDepth 100000
def RX8 : String := "WidowRoads$Fault"
def TX8 : u_T := fun k => match k with
  | 0 => ("java/lang/Throwable", "cause", "Ljava/lang/Throwable;", false)
  | 1 => ("java/lang/Throwable", "stackTrace", "[Ljava/lang/StackTraceElement;", false)
  | 2 => ("java/lang/Throwable", "suppressedExceptions", "Ljava/util/List;", false)
  | 3 => ("java/lang/Throwable", "detailMessage", "Ljava/lang/String;", false)
  | 4 => ("java/lang/Throwable", "backtrace", "Ljava/lang/Object;", false)
  | 5 => ("java/lang/Throwable", "depth", "I", false)
  | 6 => ("WidowRoads$Fault", "kind", "I", true)
  | _ => ("WidowRoads$Fault", "place", "I", true)
def tyX8 : Nat → FieldType := fun k => match k with
  | 0 => .object "java/lang/Throwable"
  | 1 => .array (.object "java/lang/StackTraceElement")
  | 2 => .object "java/util/List"
  | 3 => .object "java/lang/String"
  | 4 => .object "java/lang/Object"
  | 5 => .int
  | 6 => .int
  | _ => .int
abbrev wsX80 : List Cond := u_ws RX8 TX8 8
theorem nmX8 : ∀ a, a < 8 → ∀ b, b < 8 → a ≠ b → (TX8 a).2.1 ≠ (TX8 b).2.1 := by decide +kernel
theorem tyX8_ok : ∀ k, k < 8 → parseFieldDescriptor (TX8 k).2.2.1 = some (tyX8 k) := by decide +kernel
abbrev cX8_init : ByteArray := prog_5_method_1_code
def yX8_init : MethodName := ⟨RX8, "<init>", "(II)V"⟩
def dkwX8_init_0 : List UInt8 := [42, 1, 1, 3, 3, 183, 0, 1, 42, 27, 181, 0, 7, 42, 28, 181, 0, 13, 177]
abbrev dktX8_init_0 : List UInt8 := dkwX8_init_0 ++ []
theorem dksX8_init_0 : cX8_init.data.toList.drop 0 = dktX8_init_0 := by decide +kernel
theorem dX8_init_0 : decode cX8_init 0 = .ok (.aload_n 0, 1) := dk_42 (dk_at dksX8_init_0 0 rfl rfl)
theorem dX8_init_1 : decode cX8_init 1 = .ok (.aconst_null, 1) := dk_1 (dk_at dksX8_init_0 1 rfl rfl)
theorem dX8_init_2 : decode cX8_init 2 = .ok (.aconst_null, 1) := dk_1 (dk_at dksX8_init_0 2 rfl rfl)
theorem dX8_init_3 : decode cX8_init 3 = .ok (.iconst 0, 1) := dk_3 (dk_at dksX8_init_0 3 rfl rfl)
theorem dX8_init_4 : decode cX8_init 4 = .ok (.iconst 0, 1) := dk_3 (dk_at dksX8_init_0 4 rfl rfl)
theorem dX8_init_5 : decode cX8_init 5 = .ok (.invokespecial 1, 3) := dk_183 0 1 (dk_at dksX8_init_0 5 rfl rfl)
theorem dX8_init_8 : decode cX8_init 8 = .ok (.aload_n 0, 1) := dk_42 (dk_at dksX8_init_0 8 rfl rfl)
theorem dX8_init_9 : decode cX8_init 9 = .ok (.iload_n 1, 1) := dk_27 (dk_at dksX8_init_0 9 rfl rfl)
theorem dX8_init_10 : decode cX8_init 10 = .ok (.putfield 7, 3) := dk_181 0 7 (dk_at dksX8_init_0 10 rfl rfl)
theorem dX8_init_13 : decode cX8_init 13 = .ok (.aload_n 0, 1) := dk_42 (dk_at dksX8_init_0 13 rfl rfl)
theorem dX8_init_14 : decode cX8_init 14 = .ok (.iload_n 2, 1) := dk_28 (dk_at dksX8_init_0 14 rfl rfl)
theorem dX8_init_15 : decode cX8_init 15 = .ok (.putfield 13, 3) := dk_181 0 13 (dk_at dksX8_init_0 15 rfl rfl)
theorem dX8_init_18 : decode cX8_init 18 = .ok (.return_, 1) := dk_177 (dk_at dksX8_init_0 18 rfl rfl)
theorem q160 : (Jvm.Cond.initialized "WidowRoads$Fault") ∈ lw_all := lw_g (lw_at lw_m1 20 rfl) rfl
theorem q215 : (Jvm.Cond.selects "WidowRoads$Fault" ({ cls := "java/lang/Throwable", name := "fillInStackTrace", desc := "()Ljava/lang/Throwable;" } : Jvm.MethodName) ({ cls := "java/lang/Throwable", name := "fillInStackTrace", desc := "()Ljava/lang/Throwable;" } : Jvm.MethodName)) ∈ lw_all := lw_g (lw_at lw_m1 75 rfl) rfl
theorem q777 : (Jvm.Cond.instantiable "WidowRoads$Fault" (8 : Nat)) ∈ lw_all := lw_g (lw_at lw_m3 157 rfl) rfl
theorem q778 : (Jvm.Cond.castable "WidowRoads$Fault" "WidowRoads$Fault") ∈ lw_tbl := lw_at lw_m3 158 rfl
theorem q779 : (Jvm.Cond.selects "WidowRoads$Fault" ({ cls := "java/lang/Throwable", name := "fillInStackTrace", desc := "(I)Ljava/lang/Throwable;" } : Jvm.MethodName) ({ cls := "java/lang/Throwable", name := "fillInStackTrace", desc := "(I)Ljava/lang/Throwable;" } : Jvm.MethodName)) ∈ lw_all := lw_g (lw_at lw_m3 159 rfl) rfl
theorem q780 : (Jvm.Cond.lays "WidowRoads$Fault" "java/lang/Throwable" "cause" "Ljava/lang/Throwable;") ∈ lw_all := lw_g (lw_at lw_m3 160 rfl) rfl
theorem q781 : (Jvm.Cond.lays "WidowRoads$Fault" "java/lang/Throwable" "stackTrace" "[Ljava/lang/StackTraceElement;") ∈ lw_all := lw_g (lw_at lw_m3 161 rfl) rfl
theorem q782 : (Jvm.Cond.lays "WidowRoads$Fault" "java/lang/Throwable" "suppressedExceptions" "Ljava/util/List;") ∈ lw_all := lw_g (lw_at lw_m3 162 rfl) rfl
theorem q783 : (Jvm.Cond.lays "WidowRoads$Fault" "java/lang/Throwable" "detailMessage" "Ljava/lang/String;") ∈ lw_all := lw_g (lw_at lw_m3 163 rfl) rfl
theorem q784 : (Jvm.Cond.lays "WidowRoads$Fault" "java/lang/Throwable" "backtrace" "Ljava/lang/Object;") ∈ lw_all := lw_g (lw_at lw_m3 164 rfl) rfl
theorem q786 : (Jvm.Cond.instanceMethod ({ cls := "WidowRoads$Fault", name := "<init>", desc := "(II)V" } : Jvm.MethodName)) ∈ lw_all := lw_g (lw_at lw_m3 166 rfl) rfl
theorem q787 : (Jvm.Cond.code ({ cls := "WidowRoads$Fault", name := "<init>", desc := "(II)V" } : Jvm.MethodName) prog_5_method_1_code (3 : Nat) (Option.none : Option Jvm.ClassFile.FieldType)) ∈ lw_all := lw_g (lw_at lw_m3 167 rfl) rfl
theorem q788 : (Jvm.Cond.methodLink "WidowRoads$Fault" (1 : Nat) ({ cls := "java/lang/RuntimeException", name := "<init>", desc := "(Ljava/lang/String;Ljava/lang/Throwable;ZZ)V" } : Jvm.MethodName)) ∈ lw_all := lw_g (lw_at lw_m3 168 rfl) rfl
theorem q797 : (Jvm.Cond.fieldLink "WidowRoads$Fault" (7 : Nat) "WidowRoads$Fault" "kind" "I") ∈ lw_all := lw_g (lw_at lw_m3 177 rfl) rfl
theorem q799 : (Jvm.Cond.fieldLink "WidowRoads$Fault" (13 : Nat) "WidowRoads$Fault" "place" "I") ∈ lw_all := lw_g (lw_at lw_m3 179 rfl) rfl
theorem q801 : (Jvm.Cond.laysFinal "WidowRoads$Fault" "WidowRoads$Fault" "kind" "I") ∈ lw_all := lw_g (lw_at lw_m3 181 rfl) rfl
theorem q802 : (Jvm.Cond.soleField "WidowRoads$Fault" "kind") ∈ lw_all := lw_g (lw_at lw_m3 182 rfl) rfl
theorem q803 : (Jvm.Cond.laysFinal "WidowRoads$Fault" "WidowRoads$Fault" "place" "I") ∈ lw_all := lw_g (lw_at lw_m3 183 rfl) rfl
theorem q804 : (Jvm.Cond.soleField "WidowRoads$Fault" "place") ∈ lw_all := lw_g (lw_at lw_m3 184 rfl) rfl
theorem q805 : (Jvm.Cond.lays "WidowRoads$Fault" "java/lang/Throwable" "depth" "I") ∈ lw_all := lw_g (lw_at lw_m3 185 rfl) rfl
theorem q806 : (Jvm.Cond.superclass "WidowRoads$Fault" "java/lang/RuntimeException") ∈ lw_all := lw_g (lw_at lw_m3 186 rfl) rfl
theorem q888 : (Jvm.Cond.selects "WidowRoads$Fault" ({ cls := "java/lang/Object", name := "equals", desc := "(Ljava/lang/Object;)Z" } : Jvm.MethodName) ({ cls := "java/lang/Object", name := "equals", desc := "(Ljava/lang/Object;)Z" } : Jvm.MethodName)) ∈ lw_all := lw_g (lw_at lw_m4 28 rfl) rfl
theorem q955 : (Jvm.Cond.selects "WidowRoads$Fault" ({ cls := "java/lang/Object", name := "getClass", desc := "()Ljava/lang/Class;" } : Jvm.MethodName) ({ cls := "java/lang/Object", name := "getClass", desc := "()Ljava/lang/Class;" } : Jvm.MethodName)) ∈ lw_all := lw_g (lw_at lw_m4 95 rfl) rfl
theorem q2595 : (Jvm.Cond.castable "WidowRoads$Fault" "java/lang/Object") ∈ lw_tbl := lw_at lw_m11 55 rfl
theorem in_X8 : ∀ w ∈ wsX80, w ∈ lw_all := lw_in wsX80 [780, 781, 782, 783, 784, 805, 801, 803] (by decide +kernel) (by decide +kernel)
/-! WidowRoads$Widow -/
set_option maxRecDepth 100000
def RX9 : String := "WidowRoads$Widow"
def TX9 : u_T := fun k => match k with
  | 0 => ("WidowRoads$Widow", "spot", "I", true)
  | 1 => ("WidowRoads$Widow", "faces", "I", true)
  | 2 => ("WidowRoads$Widow", "year", "I", true)
  | 3 => ("WidowRoads$Widow", "many", "I", true)
  | 4 => ("WidowRoads$Widow", "grief", "[I", true)
  | _ => ("WidowRoads$Widow", "steps", "I", false)
def tyX9 : Nat → FieldType := fun k => match k with
  | 0 => .int
  | 1 => .int
  | 2 => .int
  | 3 => .int
  | 4 => .array .int
  | _ => .int
abbrev wsX90 : List Cond := u_ws RX9 TX9 6
theorem nmX9 : ∀ a, a < 6 → ∀ b, b < 6 → a ≠ b → (TX9 a).2.1 ≠ (TX9 b).2.1 := by decide +kernel
theorem tyX9_ok : ∀ k, k < 6 → parseFieldDescriptor (TX9 k).2.2.1 = some (tyX9 k) := by decide +kernel
abbrev cX9_init : ByteArray := prog_10_method_1_code
def yX9_init : MethodName := ⟨RX9, "<init>", "(IIII[II)V"⟩
def dkwX9_init_1 : List UInt8 := [181, 0, 19, 42, 25, 5, 181, 0, 22, 42, 21, 6, 181, 0, 26, 177]
abbrev dktX9_init_1 : List UInt8 := dkwX9_init_1 ++ []
def dkwX9_init_0 : List UInt8 := [42, 183, 0, 1, 42, 27, 181, 0, 7, 42, 28, 181, 0, 13, 42, 29, 181, 0, 16, 42, 21, 4]
abbrev dktX9_init_0 : List UInt8 := dkwX9_init_0 ++ dktX9_init_1
theorem dksX9_init_0 : cX9_init.data.toList.drop 0 = dktX9_init_0 := by decide +kernel
theorem dksX9_init_1 : cX9_init.data.toList.drop 22 = dktX9_init_1 := dk_seg dksX9_init_0 22 rfl rfl
theorem dX9_init_0 : decode cX9_init 0 = .ok (.aload_n 0, 1) := dk_42 (dk_at dksX9_init_0 0 rfl rfl)
theorem dX9_init_1 : decode cX9_init 1 = .ok (.invokespecial 1, 3) := dk_183 0 1 (dk_at dksX9_init_0 1 rfl rfl)
theorem dX9_init_4 : decode cX9_init 4 = .ok (.aload_n 0, 1) := dk_42 (dk_at dksX9_init_0 4 rfl rfl)
theorem dX9_init_5 : decode cX9_init 5 = .ok (.iload_n 1, 1) := dk_27 (dk_at dksX9_init_0 5 rfl rfl)
theorem dX9_init_6 : decode cX9_init 6 = .ok (.putfield 7, 3) := dk_181 0 7 (dk_at dksX9_init_0 6 rfl rfl)
theorem dX9_init_9 : decode cX9_init 9 = .ok (.aload_n 0, 1) := dk_42 (dk_at dksX9_init_0 9 rfl rfl)
theorem dX9_init_10 : decode cX9_init 10 = .ok (.iload_n 2, 1) := dk_28 (dk_at dksX9_init_0 10 rfl rfl)
theorem dX9_init_11 : decode cX9_init 11 = .ok (.putfield 13, 3) := dk_181 0 13 (dk_at dksX9_init_0 11 rfl rfl)
theorem dX9_init_14 : decode cX9_init 14 = .ok (.aload_n 0, 1) := dk_42 (dk_at dksX9_init_0 14 rfl rfl)
theorem dX9_init_15 : decode cX9_init 15 = .ok (.iload_n 3, 1) := dk_29 (dk_at dksX9_init_0 15 rfl rfl)
theorem dX9_init_16 : decode cX9_init 16 = .ok (.putfield 16, 3) := dk_181 0 16 (dk_at dksX9_init_0 16 rfl rfl)
theorem dX9_init_19 : decode cX9_init 19 = .ok (.aload_n 0, 1) := dk_42 (dk_at dksX9_init_0 19 rfl rfl)
theorem dX9_init_20 : decode cX9_init 20 = .ok (.iload 4, 2) := dk_21 4 (dk_at dksX9_init_0 20 rfl rfl)
theorem dX9_init_22 : decode cX9_init 22 = .ok (.putfield 19, 3) := dk_181 0 19 (dk_at dksX9_init_1 0 rfl rfl)
theorem dX9_init_25 : decode cX9_init 25 = .ok (.aload_n 0, 1) := dk_42 (dk_at dksX9_init_1 3 rfl rfl)
theorem dX9_init_26 : decode cX9_init 26 = .ok (.aload 5, 2) := dk_25 5 (dk_at dksX9_init_1 4 rfl rfl)
theorem dX9_init_28 : decode cX9_init 28 = .ok (.putfield 22, 3) := dk_181 0 22 (dk_at dksX9_init_1 6 rfl rfl)
theorem dX9_init_31 : decode cX9_init 31 = .ok (.aload_n 0, 1) := dk_42 (dk_at dksX9_init_1 9 rfl rfl)
theorem dX9_init_32 : decode cX9_init 32 = .ok (.iload 6, 2) := dk_21 6 (dk_at dksX9_init_1 10 rfl rfl)
theorem dX9_init_34 : decode cX9_init 34 = .ok (.putfield 26, 3) := dk_181 0 26 (dk_at dksX9_init_1 12 rfl rfl)
theorem dX9_init_37 : decode cX9_init 37 = .ok (.return_, 1) := dk_177 (dk_at dksX9_init_1 15 rfl rfl)
abbrev cX9_same : ByteArray := prog_10_method_2_code
def yX9_same : MethodName := ⟨RX9, "same", "()LWidowRoads$Widow;"⟩
def dkwX9_same_1 : List UInt8 := [42, 180, 0, 26, 183, 0, 29, 176]
abbrev dktX9_same_1 : List UInt8 := dkwX9_same_1 ++ []
def dkwX9_same_0 : List UInt8 := [187, 0, 8, 89, 42, 180, 0, 7, 42, 180, 0, 13, 42, 180, 0, 16, 42, 180, 0, 19, 42, 180, 0, 22]
abbrev dktX9_same_0 : List UInt8 := dkwX9_same_0 ++ dktX9_same_1
theorem dksX9_same_0 : cX9_same.data.toList.drop 0 = dktX9_same_0 := by decide +kernel
theorem dksX9_same_1 : cX9_same.data.toList.drop 24 = dktX9_same_1 := dk_seg dksX9_same_0 24 rfl rfl
theorem dX9_same_0 : decode cX9_same 0 = .ok (.new 8, 3) := dk_187 0 8 (dk_at dksX9_same_0 0 rfl rfl)
theorem dX9_same_3 : decode cX9_same 3 = .ok (.dup, 1) := dk_89 (dk_at dksX9_same_0 3 rfl rfl)
theorem dX9_same_4 : decode cX9_same 4 = .ok (.aload_n 0, 1) := dk_42 (dk_at dksX9_same_0 4 rfl rfl)
theorem dX9_same_5 : decode cX9_same 5 = .ok (.getfield 7, 3) := dk_180 0 7 (dk_at dksX9_same_0 5 rfl rfl)
theorem dX9_same_8 : decode cX9_same 8 = .ok (.aload_n 0, 1) := dk_42 (dk_at dksX9_same_0 8 rfl rfl)
theorem dX9_same_9 : decode cX9_same 9 = .ok (.getfield 13, 3) := dk_180 0 13 (dk_at dksX9_same_0 9 rfl rfl)
theorem dX9_same_12 : decode cX9_same 12 = .ok (.aload_n 0, 1) := dk_42 (dk_at dksX9_same_0 12 rfl rfl)
theorem dX9_same_13 : decode cX9_same 13 = .ok (.getfield 16, 3) := dk_180 0 16 (dk_at dksX9_same_0 13 rfl rfl)
theorem dX9_same_16 : decode cX9_same 16 = .ok (.aload_n 0, 1) := dk_42 (dk_at dksX9_same_0 16 rfl rfl)
theorem dX9_same_17 : decode cX9_same 17 = .ok (.getfield 19, 3) := dk_180 0 19 (dk_at dksX9_same_0 17 rfl rfl)
theorem dX9_same_20 : decode cX9_same 20 = .ok (.aload_n 0, 1) := dk_42 (dk_at dksX9_same_0 20 rfl rfl)
theorem dX9_same_21 : decode cX9_same 21 = .ok (.getfield 22, 3) := dk_180 0 22 (dk_at dksX9_same_0 21 rfl rfl)
theorem dX9_same_24 : decode cX9_same 24 = .ok (.aload_n 0, 1) := dk_42 (dk_at dksX9_same_1 0 rfl rfl)
theorem dX9_same_25 : decode cX9_same 25 = .ok (.getfield 26, 3) := dk_180 0 26 (dk_at dksX9_same_1 1 rfl rfl)
theorem dX9_same_28 : decode cX9_same 28 = .ok (.invokespecial 29, 3) := dk_183 0 29 (dk_at dksX9_same_1 4 rfl rfl)
theorem dX9_same_31 : decode cX9_same 31 = .ok (.areturn, 1) := dk_176 (dk_at dksX9_same_1 7 rfl rfl)
theorem q167 : (Jvm.Cond.initialized "WidowRoads$Widow") ∈ lw_all := lw_g (lw_at lw_m1 27 rfl) rfl
theorem q893 : (Jvm.Cond.selects "WidowRoads$Widow" ({ cls := "java/lang/Object", name := "equals", desc := "(Ljava/lang/Object;)Z" } : Jvm.MethodName) ({ cls := "java/lang/Object", name := "equals", desc := "(Ljava/lang/Object;)Z" } : Jvm.MethodName)) ∈ lw_all := lw_g (lw_at lw_m4 33 rfl) rfl
theorem q960 : (Jvm.Cond.selects "WidowRoads$Widow" ({ cls := "java/lang/Object", name := "getClass", desc := "()Ljava/lang/Class;" } : Jvm.MethodName) ({ cls := "java/lang/Object", name := "getClass", desc := "()Ljava/lang/Class;" } : Jvm.MethodName)) ∈ lw_all := lw_g (lw_at lw_m4 100 rfl) rfl
theorem q997 : (Jvm.Cond.instantiable "WidowRoads$Widow" (6 : Nat)) ∈ lw_all := lw_g (lw_at lw_m4 137 rfl) rfl
theorem q999 : (Jvm.Cond.instanceMethod ({ cls := "WidowRoads$Widow", name := "<init>", desc := "(IIII[II)V" } : Jvm.MethodName)) ∈ lw_all := lw_g (lw_at lw_m4 139 rfl) rfl
theorem q1000 : (Jvm.Cond.code ({ cls := "WidowRoads$Widow", name := "<init>", desc := "(IIII[II)V" } : Jvm.MethodName) prog_10_method_1_code (7 : Nat) (Option.none : Option Jvm.ClassFile.FieldType)) ∈ lw_all := lw_g (lw_at lw_m4 140 rfl) rfl
theorem q1001 : (Jvm.Cond.methodLink "WidowRoads$Widow" (1 : Nat) ({ cls := "java/lang/Object", name := "<init>", desc := "()V" } : Jvm.MethodName)) ∈ lw_all := lw_g (lw_at lw_m4 141 rfl) rfl
theorem q1002 : (Jvm.Cond.fieldLink "WidowRoads$Widow" (7 : Nat) "WidowRoads$Widow" "spot" "I") ∈ lw_all := lw_g (lw_at lw_m4 142 rfl) rfl
theorem q1005 : (Jvm.Cond.fieldLink "WidowRoads$Widow" (13 : Nat) "WidowRoads$Widow" "faces" "I") ∈ lw_all := lw_g (lw_at lw_m4 145 rfl) rfl
theorem q1008 : (Jvm.Cond.fieldLink "WidowRoads$Widow" (19 : Nat) "WidowRoads$Widow" "year" "I") ∈ lw_all := lw_g (lw_at lw_m4 148 rfl) rfl
theorem q1011 : (Jvm.Cond.fieldLink "WidowRoads$Widow" (26 : Nat) "WidowRoads$Widow" "many" "I") ∈ lw_all := lw_g (lw_at lw_m4 151 rfl) rfl
theorem q1014 : (Jvm.Cond.fieldLink "WidowRoads$Widow" (22 : Nat) "WidowRoads$Widow" "grief" "[I") ∈ lw_all := lw_g (lw_at lw_m4 154 rfl) rfl
theorem q1017 : (Jvm.Cond.fieldLink "WidowRoads$Widow" (16 : Nat) "WidowRoads$Widow" "steps" "I") ∈ lw_all := lw_g (lw_at lw_m4 157 rfl) rfl
theorem q1020 : (Jvm.Cond.laysFinal "WidowRoads$Widow" "WidowRoads$Widow" "spot" "I") ∈ lw_all := lw_g (lw_at lw_m4 160 rfl) rfl
theorem q1021 : (Jvm.Cond.soleField "WidowRoads$Widow" "spot") ∈ lw_all := lw_g (lw_at lw_m4 161 rfl) rfl
theorem q1022 : (Jvm.Cond.laysFinal "WidowRoads$Widow" "WidowRoads$Widow" "faces" "I") ∈ lw_all := lw_g (lw_at lw_m4 162 rfl) rfl
theorem q1023 : (Jvm.Cond.soleField "WidowRoads$Widow" "faces") ∈ lw_all := lw_g (lw_at lw_m4 163 rfl) rfl
theorem q1024 : (Jvm.Cond.laysFinal "WidowRoads$Widow" "WidowRoads$Widow" "year" "I") ∈ lw_all := lw_g (lw_at lw_m4 164 rfl) rfl
theorem q1025 : (Jvm.Cond.soleField "WidowRoads$Widow" "year") ∈ lw_all := lw_g (lw_at lw_m4 165 rfl) rfl
theorem q1026 : (Jvm.Cond.laysFinal "WidowRoads$Widow" "WidowRoads$Widow" "many" "I") ∈ lw_all := lw_g (lw_at lw_m4 166 rfl) rfl
theorem q1027 : (Jvm.Cond.soleField "WidowRoads$Widow" "many") ∈ lw_all := lw_g (lw_at lw_m4 167 rfl) rfl
theorem q1028 : (Jvm.Cond.laysFinal "WidowRoads$Widow" "WidowRoads$Widow" "grief" "[I") ∈ lw_all := lw_g (lw_at lw_m4 168 rfl) rfl
theorem q1029 : (Jvm.Cond.soleField "WidowRoads$Widow" "grief") ∈ lw_all := lw_g (lw_at lw_m4 169 rfl) rfl
theorem q1030 : (Jvm.Cond.lays "WidowRoads$Widow" "WidowRoads$Widow" "steps" "I") ∈ lw_all := lw_g (lw_at lw_m4 170 rfl) rfl
theorem q1031 : (Jvm.Cond.soleField "WidowRoads$Widow" "steps") ∈ lw_all := lw_g (lw_at lw_m4 171 rfl) rfl
theorem q1032 : (Jvm.Cond.superclass "WidowRoads$Widow" "java/lang/Object") ∈ lw_all := lw_g (lw_at lw_m4 172 rfl) rfl
theorem q1768 : (Jvm.Cond.instanceMethod ({ cls := "WidowRoads$Widow", name := "same", desc := "()LWidowRoads$Widow;" } : Jvm.MethodName)) ∈ lw_all := lw_g (lw_at lw_m7 188 rfl) rfl
theorem q1769 : (Jvm.Cond.selects "WidowRoads$Widow" ({ cls := "WidowRoads$Widow", name := "same", desc := "()LWidowRoads$Widow;" } : Jvm.MethodName) ({ cls := "WidowRoads$Widow", name := "same", desc := "()LWidowRoads$Widow;" } : Jvm.MethodName)) ∈ lw_all := lw_g (lw_at lw_m7 189 rfl) rfl
theorem q1770 : (Jvm.Cond.code ({ cls := "WidowRoads$Widow", name := "same", desc := "()LWidowRoads$Widow;" } : Jvm.MethodName) prog_10_method_2_code (1 : Nat) (Option.some (Jvm.ClassFile.FieldType.object "WidowRoads$Widow"))) ∈ lw_all := lw_g (lw_at lw_m7 190 rfl) rfl
theorem q1771 : (Jvm.Cond.classLink "WidowRoads$Widow" (8 : Nat) "WidowRoads$Widow") ∈ lw_all := lw_g (lw_at lw_m7 191 rfl) rfl
theorem q1772 : (Jvm.Cond.methodLink "WidowRoads$Widow" (29 : Nat) ({ cls := "WidowRoads$Widow", name := "<init>", desc := "(IIII[II)V" } : Jvm.MethodName)) ∈ lw_all := lw_g (lw_at lw_m7 192 rfl) rfl
theorem q2597 : (Jvm.Cond.castable "WidowRoads$Widow" "java/lang/Object") ∈ lw_tbl := lw_at lw_m11 57 rfl
theorem in_X9 : ∀ w ∈ wsX90, w ∈ lw_all := lw_in wsX90 [1020, 1022, 1024, 1026, 1028, 1030] (by decide +kernel) (by decide +kernel)
/-! WidowRoads$Deed -/
set_option maxRecDepth 100000
def RX10 : String := "WidowRoads$Deed"
def TX10 : u_T := fun k => match k with
  | 0 => ("WidowRoads$Deed", "isBridge", "Z", true)
  | _ => ("WidowRoads$Deed", "of", "I", true)
def tyX10 : Nat → FieldType := fun k => match k with
  | 0 => .boolean
  | _ => .int
abbrev wsX100 : List Cond := u_ws RX10 TX10 2
theorem nmX10 : ∀ a, a < 2 → ∀ b, b < 2 → a ≠ b → (TX10 a).2.1 ≠ (TX10 b).2.1 := by decide +kernel
theorem tyX10_ok : ∀ k, k < 2 → parseFieldDescriptor (TX10 k).2.2.1 = some (tyX10 k) := by decide +kernel
abbrev cX10_init : ByteArray := prog_3_method_1_code
def yX10_init : MethodName := ⟨RX10, "<init>", "(ZI)V"⟩
def dkwX10_init_0 : List UInt8 := [42, 183, 0, 1, 42, 27, 181, 0, 7, 42, 28, 181, 0, 13, 177]
abbrev dktX10_init_0 : List UInt8 := dkwX10_init_0 ++ []
theorem dksX10_init_0 : cX10_init.data.toList.drop 0 = dktX10_init_0 := by decide +kernel
theorem dX10_init_0 : decode cX10_init 0 = .ok (.aload_n 0, 1) := dk_42 (dk_at dksX10_init_0 0 rfl rfl)
theorem dX10_init_1 : decode cX10_init 1 = .ok (.invokespecial 1, 3) := dk_183 0 1 (dk_at dksX10_init_0 1 rfl rfl)
theorem dX10_init_4 : decode cX10_init 4 = .ok (.aload_n 0, 1) := dk_42 (dk_at dksX10_init_0 4 rfl rfl)
theorem dX10_init_5 : decode cX10_init 5 = .ok (.iload_n 1, 1) := dk_27 (dk_at dksX10_init_0 5 rfl rfl)
theorem dX10_init_6 : decode cX10_init 6 = .ok (.putfield 7, 3) := dk_181 0 7 (dk_at dksX10_init_0 6 rfl rfl)
theorem dX10_init_9 : decode cX10_init 9 = .ok (.aload_n 0, 1) := dk_42 (dk_at dksX10_init_0 9 rfl rfl)
theorem dX10_init_10 : decode cX10_init 10 = .ok (.iload_n 2, 1) := dk_28 (dk_at dksX10_init_0 10 rfl rfl)
theorem dX10_init_11 : decode cX10_init 11 = .ok (.putfield 13, 3) := dk_181 0 13 (dk_at dksX10_init_0 11 rfl rfl)
theorem dX10_init_14 : decode cX10_init 14 = .ok (.return_, 1) := dk_177 (dk_at dksX10_init_0 14 rfl rfl)
theorem q171 : (Jvm.Cond.initialized "WidowRoads$Deed") ∈ lw_all := lw_g (lw_at lw_m1 31 rfl) rfl
theorem q886 : (Jvm.Cond.selects "WidowRoads$Deed" ({ cls := "java/lang/Object", name := "equals", desc := "(Ljava/lang/Object;)Z" } : Jvm.MethodName) ({ cls := "java/lang/Object", name := "equals", desc := "(Ljava/lang/Object;)Z" } : Jvm.MethodName)) ∈ lw_all := lw_g (lw_at lw_m4 26 rfl) rfl
theorem q953 : (Jvm.Cond.selects "WidowRoads$Deed" ({ cls := "java/lang/Object", name := "getClass", desc := "()Ljava/lang/Class;" } : Jvm.MethodName) ({ cls := "java/lang/Object", name := "getClass", desc := "()Ljava/lang/Class;" } : Jvm.MethodName)) ∈ lw_all := lw_g (lw_at lw_m4 93 rfl) rfl
theorem q1656 : (Jvm.Cond.instantiable "WidowRoads$Deed" (2 : Nat)) ∈ lw_all := lw_g (lw_at lw_m7 76 rfl) rfl
theorem q1658 : (Jvm.Cond.instanceMethod ({ cls := "WidowRoads$Deed", name := "<init>", desc := "(ZI)V" } : Jvm.MethodName)) ∈ lw_all := lw_g (lw_at lw_m7 78 rfl) rfl
theorem q1659 : (Jvm.Cond.code ({ cls := "WidowRoads$Deed", name := "<init>", desc := "(ZI)V" } : Jvm.MethodName) prog_3_method_1_code (3 : Nat) (Option.none : Option Jvm.ClassFile.FieldType)) ∈ lw_all := lw_g (lw_at lw_m7 79 rfl) rfl
theorem q1660 : (Jvm.Cond.methodLink "WidowRoads$Deed" (1 : Nat) ({ cls := "java/lang/Object", name := "<init>", desc := "()V" } : Jvm.MethodName)) ∈ lw_all := lw_g (lw_at lw_m7 80 rfl) rfl
theorem q1661 : (Jvm.Cond.fieldLink "WidowRoads$Deed" (7 : Nat) "WidowRoads$Deed" "isBridge" "Z") ∈ lw_all := lw_g (lw_at lw_m7 81 rfl) rfl
theorem q1664 : (Jvm.Cond.fieldLink "WidowRoads$Deed" (13 : Nat) "WidowRoads$Deed" "of" "I") ∈ lw_all := lw_g (lw_at lw_m7 84 rfl) rfl
theorem q1667 : (Jvm.Cond.laysFinal "WidowRoads$Deed" "WidowRoads$Deed" "isBridge" "Z") ∈ lw_all := lw_g (lw_at lw_m7 87 rfl) rfl
theorem q1668 : (Jvm.Cond.soleField "WidowRoads$Deed" "isBridge") ∈ lw_all := lw_g (lw_at lw_m7 88 rfl) rfl
theorem q1669 : (Jvm.Cond.laysFinal "WidowRoads$Deed" "WidowRoads$Deed" "of" "I") ∈ lw_all := lw_g (lw_at lw_m7 89 rfl) rfl
theorem q1670 : (Jvm.Cond.soleField "WidowRoads$Deed" "of") ∈ lw_all := lw_g (lw_at lw_m7 90 rfl) rfl
theorem q1671 : (Jvm.Cond.superclass "WidowRoads$Deed" "java/lang/Object") ∈ lw_all := lw_g (lw_at lw_m7 91 rfl) rfl
theorem q2599 : (Jvm.Cond.castable "WidowRoads$Deed" "java/lang/Object") ∈ lw_tbl := lw_at lw_m11 59 rfl
theorem in_X10 : ∀ w ∈ wsX100, w ∈ lw_all := lw_in wsX100 [1667, 1669] (by decide +kernel) (by decide +kernel)
