/-! FencedStandbys -/
set_option maxRecDepth 100000
def RX0 : String := "FencedStandbys"
def TX0 : u_T := fun k => match k with
  | 0 => ("FencedStandbys", "store", "LFencedStandbys$Store;", false)
  | 1 => ("FencedStandbys", "history", "Ljava/util/ArrayDeque;", true)
  | _ => ("FencedStandbys", "text", "Ljava/lang/StringBuilder;", true)
def tyX0 : Nat → FieldType := fun k => match k with
  | 0 => .object "FencedStandbys$Store"
  | 1 => .object "java/util/ArrayDeque"
  | _ => .object "java/lang/StringBuilder"
abbrev wsX00 : List Cond := u_ws RX0 TX0 3
theorem nmX0 : ∀ a, a < 3 → ∀ b, b < 3 → a ≠ b → (TX0 a).2.1 ≠ (TX0 b).2.1 := by decide +kernel
theorem tyX0_ok : ∀ k, k < 3 → parseFieldDescriptor (TX0 k).2.2.1 = some (tyX0 k) := by decide +kernel
abbrev cX0_init : ByteArray := prog_1_method_2_code
def yX0_init : MethodName := ⟨RX0, "<init>", "()V"⟩
def dkwX0_init_1 : List UInt8 := [181, 0, 19, 42, 187, 0, 23, 89, 183, 0, 25, 181, 0, 26, 177]
abbrev dktX0_init_1 : List UInt8 := dkwX0_init_1 ++ []
def dkwX0_init_0 : List UInt8 := [42, 183, 0, 1, 42, 187, 0, 7, 89, 183, 0, 9, 181, 0, 10, 42, 187, 0, 16, 89, 183, 0, 18]
abbrev dktX0_init_0 : List UInt8 := dkwX0_init_0 ++ dktX0_init_1
theorem dksX0_init_0 : cX0_init.data.toList.drop 0 = dktX0_init_0 := by decide +kernel
theorem dksX0_init_1 : cX0_init.data.toList.drop 23 = dktX0_init_1 := dk_seg dksX0_init_0 23 rfl rfl
theorem dX0_init_0 : decode cX0_init 0 = .ok (.aload_n 0, 1) := dk_42 (dk_at dksX0_init_0 0 rfl rfl)
theorem dX0_init_1 : decode cX0_init 1 = .ok (.invokespecial 1, 3) := dk_183 0 1 (dk_at dksX0_init_0 1 rfl rfl)
theorem dX0_init_4 : decode cX0_init 4 = .ok (.aload_n 0, 1) := dk_42 (dk_at dksX0_init_0 4 rfl rfl)
theorem dX0_init_5 : decode cX0_init 5 = .ok (.new 7, 3) := dk_187 0 7 (dk_at dksX0_init_0 5 rfl rfl)
theorem dX0_init_8 : decode cX0_init 8 = .ok (.dup, 1) := dk_89 (dk_at dksX0_init_0 8 rfl rfl)
theorem dX0_init_9 : decode cX0_init 9 = .ok (.invokespecial 9, 3) := dk_183 0 9 (dk_at dksX0_init_0 9 rfl rfl)
theorem dX0_init_12 : decode cX0_init 12 = .ok (.putfield 10, 3) := dk_181 0 10 (dk_at dksX0_init_0 12 rfl rfl)
theorem dX0_init_15 : decode cX0_init 15 = .ok (.aload_n 0, 1) := dk_42 (dk_at dksX0_init_0 15 rfl rfl)
theorem dX0_init_16 : decode cX0_init 16 = .ok (.new 16, 3) := dk_187 0 16 (dk_at dksX0_init_0 16 rfl rfl)
theorem dX0_init_19 : decode cX0_init 19 = .ok (.dup, 1) := dk_89 (dk_at dksX0_init_0 19 rfl rfl)
theorem dX0_init_20 : decode cX0_init 20 = .ok (.invokespecial 18, 3) := dk_183 0 18 (dk_at dksX0_init_0 20 rfl rfl)
theorem dX0_init_23 : decode cX0_init 23 = .ok (.putfield 19, 3) := dk_181 0 19 (dk_at dksX0_init_1 0 rfl rfl)
theorem dX0_init_26 : decode cX0_init 26 = .ok (.aload_n 0, 1) := dk_42 (dk_at dksX0_init_1 3 rfl rfl)
theorem dX0_init_27 : decode cX0_init 27 = .ok (.new 23, 3) := dk_187 0 23 (dk_at dksX0_init_1 4 rfl rfl)
theorem dX0_init_30 : decode cX0_init 30 = .ok (.dup, 1) := dk_89 (dk_at dksX0_init_1 7 rfl rfl)
theorem dX0_init_31 : decode cX0_init 31 = .ok (.invokespecial 25, 3) := dk_183 0 25 (dk_at dksX0_init_1 8 rfl rfl)
theorem dX0_init_34 : decode cX0_init 34 = .ok (.putfield 26, 3) := dk_181 0 26 (dk_at dksX0_init_1 11 rfl rfl)
theorem dX0_init_37 : decode cX0_init 37 = .ok (.return_, 1) := dk_177 (dk_at dksX0_init_1 14 rfl rfl)
abbrev cX0_open : ByteArray := prog_1_method_9_code
def yX0_open : MethodName := ⟨RX0, "open", "(I)I"⟩
def dkwX0_open_0 : List UInt8 := [42, 16, 111, 4, 188, 10, 89, 3, 27, 79, 182, 0, 121, 172]
abbrev dktX0_open_0 : List UInt8 := dkwX0_open_0 ++ []
theorem dksX0_open_0 : cX0_open.data.toList.drop 0 = dktX0_open_0 := by decide +kernel
theorem dX0_open_0 : decode cX0_open 0 = .ok (.aload_n 0, 1) := dk_42 (dk_at dksX0_open_0 0 rfl rfl)
theorem dX0_open_1 : decode cX0_open 1 = .ok (.bipush 111, 2) := dk_16 111 (dk_at dksX0_open_0 1 rfl rfl)
theorem dX0_open_3 : decode cX0_open 3 = .ok (.iconst 1, 1) := dk_4 (dk_at dksX0_open_0 3 rfl rfl)
theorem dX0_open_4 : decode cX0_open 4 = .ok (.newarray .int, 2) := dk_188_10 (dk_at dksX0_open_0 4 rfl rfl)
theorem dX0_open_6 : decode cX0_open 6 = .ok (.dup, 1) := dk_89 (dk_at dksX0_open_0 6 rfl rfl)
theorem dX0_open_7 : decode cX0_open 7 = .ok (.iconst 0, 1) := dk_3 (dk_at dksX0_open_0 7 rfl rfl)
theorem dX0_open_8 : decode cX0_open 8 = .ok (.iload_n 1, 1) := dk_27 (dk_at dksX0_open_0 8 rfl rfl)
theorem dX0_open_9 : decode cX0_open 9 = .ok (.iastore, 1) := dk_79 (dk_at dksX0_open_0 9 rfl rfl)
theorem dX0_open_10 : decode cX0_open 10 = .ok (.invokevirtual 121, 3) := dk_182 0 121 (dk_at dksX0_open_0 10 rfl rfl)
theorem dX0_open_13 : decode cX0_open 13 = .ok (.ireturn, 1) := dk_172 (dk_at dksX0_open_0 13 rfl rfl)
abbrev cX0_order : ByteArray := prog_1_method_8_code
def yX0_order : MethodName := ⟨RX0, "order", "(C[I)I"⟩
def dkwX0_order_1 : List UInt8 := [58, 4, 25, 4, 180, 0, 117, 172]
abbrev dktX0_order_1 : List UInt8 := dkwX0_order_1 ++ []
def dkwX0_order_0 : List UInt8 := [187, 0, 7, 89, 42, 180, 0, 10, 183, 0, 106, 78, 42, 45, 45, 27, 44, 184, 0, 109, 182, 0, 113, 172]
abbrev dktX0_order_0 : List UInt8 := dkwX0_order_0 ++ dktX0_order_1
theorem dksX0_order_0 : cX0_order.data.toList.drop 0 = dktX0_order_0 := by decide +kernel
theorem dksX0_order_1 : cX0_order.data.toList.drop 24 = dktX0_order_1 := dk_seg dksX0_order_0 24 rfl rfl
theorem dX0_order_0 : decode cX0_order 0 = .ok (.new 7, 3) := dk_187 0 7 (dk_at dksX0_order_0 0 rfl rfl)
theorem dX0_order_3 : decode cX0_order 3 = .ok (.dup, 1) := dk_89 (dk_at dksX0_order_0 3 rfl rfl)
theorem dX0_order_4 : decode cX0_order 4 = .ok (.aload_n 0, 1) := dk_42 (dk_at dksX0_order_0 4 rfl rfl)
theorem dX0_order_5 : decode cX0_order 5 = .ok (.getfield 10, 3) := dk_180 0 10 (dk_at dksX0_order_0 5 rfl rfl)
theorem dX0_order_8 : decode cX0_order 8 = .ok (.invokespecial 106, 3) := dk_183 0 106 (dk_at dksX0_order_0 8 rfl rfl)
theorem dX0_order_11 : decode cX0_order 11 = .ok (.astore_n 3, 1) := dk_78 (dk_at dksX0_order_0 11 rfl rfl)
theorem dX0_order_12 : decode cX0_order 12 = .ok (.aload_n 0, 1) := dk_42 (dk_at dksX0_order_0 12 rfl rfl)
theorem dX0_order_13 : decode cX0_order 13 = .ok (.aload_n 3, 1) := dk_45 (dk_at dksX0_order_0 13 rfl rfl)
theorem dX0_order_14 : decode cX0_order 14 = .ok (.aload_n 3, 1) := dk_45 (dk_at dksX0_order_0 14 rfl rfl)
theorem dX0_order_15 : decode cX0_order 15 = .ok (.iload_n 1, 1) := dk_27 (dk_at dksX0_order_0 15 rfl rfl)
theorem dX0_order_16 : decode cX0_order 16 = .ok (.aload_n 2, 1) := dk_44 (dk_at dksX0_order_0 16 rfl rfl)
theorem dX0_order_17 : decode cX0_order 17 = .ok (.invokestatic 109, 3) := dk_184 0 109 (dk_at dksX0_order_0 17 rfl rfl)
theorem dX0_order_20 : decode cX0_order 20 = .ok (.invokevirtual 113, 3) := dk_182 0 113 (dk_at dksX0_order_0 20 rfl rfl)
theorem dX0_order_23 : decode cX0_order 23 = .ok (.ireturn, 1) := dk_172 (dk_at dksX0_order_0 23 rfl rfl)
theorem dX0_order_24 : decode cX0_order 24 = .ok (.astore 4, 2) := dk_58 4 (dk_at dksX0_order_1 0 rfl rfl)
theorem dX0_order_26 : decode cX0_order 26 = .ok (.aload 4, 2) := dk_25 4 (dk_at dksX0_order_1 2 rfl rfl)
theorem dX0_order_28 : decode cX0_order 28 = .ok (.getfield 117, 3) := dk_180 0 117 (dk_at dksX0_order_1 4 rfl rfl)
theorem dX0_order_31 : decode cX0_order 31 = .ok (.ireturn, 1) := dk_172 (dk_at dksX0_order_1 7 rfl rfl)
abbrev cX0_done : ByteArray := prog_1_method_7_code
def yX0_done : MethodName := ⟨RX0, "done", "(LFencedStandbys$Store;C[I)I"⟩
def dkwX0_done_11 : List UInt8 := [44, 3, 46, 182, 0, 100, 172, 42, 44, 3, 46, 182, 0, 103, 172]
abbrev dktX0_done_11 : List UInt8 := dkwX0_done_11 ++ []
def dkwX0_done_10 : List UInt8 := [182, 0, 91, 172, 42, 44, 3, 46, 44, 4, 46, 182, 0, 94, 172, 42, 44, 3, 46, 182, 0, 97, 172, 42]
abbrev dktX0_done_10 : List UInt8 := dkwX0_done_10 ++ dktX0_done_11
def dkwX0_done_9 : List UInt8 := [3, 46, 4, 182, 0, 87, 172, 42, 44, 3, 46, 5, 182, 0, 87, 172, 42, 44, 3, 46, 44, 4, 46]
abbrev dktX0_done_9 : List UInt8 := dkwX0_done_9 ++ dktX0_done_10
def dkwX0_done_8 : List UInt8 := [42, 44, 3, 46, 182, 0, 80, 172, 42, 44, 3, 46, 44, 4, 46, 44, 5, 46, 182, 0, 83, 172, 42, 44]
abbrev dktX0_done_8 : List UInt8 := dkwX0_done_8 ++ dktX0_done_9
def dkwX0_done_7 : List UInt8 := [170, 0, 0, 0, 0, 0, 169, 0, 0, 0, 97, 0, 0, 0, 115, 0, 0, 0, 122, 0, 0, 0, 169, 0, 0, 0, 113, 0, 0, 0, 169, 0, 0, 0, 169, 0, 0, 0, 169, 0, 0, 0, 161, 0, 0, 0, 169, 0, 0, 0, 169, 0, 0, 0, 169, 0, 0, 0, 169, 0, 0, 0, 142, 0, 0, 0, 169, 0, 0, 0, 169, 0, 0, 0, 91, 0, 0, 0, 99, 0, 0, 0, 169, 0, 0, 0, 153, 0, 0, 0, 131]
abbrev dktX0_done_7 : List UInt8 := dkwX0_done_7 ++ dktX0_done_8
def dkwX0_done_6 : List UInt8 := [183, 0, 77, 191, 27]
abbrev dktX0_done_6 : List UInt8 := dkwX0_done_6 ++ dktX0_done_7
def dkwX0_done_5 : List UInt8 := [44, 4, 46, 158, 0, 7, 4, 167, 0, 4, 3, 126, 62, 29, 154, 0, 13, 187, 0, 74, 89, 18, 76]
abbrev dktX0_done_5 : List UInt8 := dkwX0_done_5 ++ dktX0_done_6
def dkwX0_done_4 : List UInt8 := [10, 20, 0, 72, 184, 0, 44, 153, 0, 7, 4, 167, 0, 4, 3, 126, 62, 29, 27, 16, 108, 160, 0, 9]
abbrev dktX0_done_4 : List UInt8 := dkwX0_done_4 ++ dktX0_done_5
def dkwX0_done_3 : List UInt8 := [184, 0, 44, 153, 0, 7, 4, 167, 0, 4, 3, 126, 62, 29, 27, 16, 115, 160, 0, 17, 44, 4, 46, 133]
abbrev dktX0_done_3 : List UInt8 := dkwX0_done_3 ++ dktX0_done_4
def dkwX0_done_2 : List UInt8 := [16, 112, 160, 0, 26, 44, 4, 46, 184, 0, 67, 153, 0, 21, 44, 5, 46, 133, 9, 20, 0, 70]
abbrev dktX0_done_2 : List UInt8 := dkwX0_done_2 ++ dktX0_done_3
def dkwX0_done_1 : List UInt8 := [182, 0, 54, 155, 0, 12, 44, 3, 46, 184, 0, 60, 167, 0, 9, 44, 3, 46, 184, 0, 64, 62, 29, 27]
abbrev dktX0_done_1 : List UInt8 := dkwX0_done_1 ++ dktX0_done_2
def dkwX0_done_0 : List UInt8 := [27, 16, 116, 160, 0, 17, 44, 3, 46, 133, 10, 20, 0, 50, 184, 0, 44, 167, 0, 27, 18, 52, 27]
abbrev dktX0_done_0 : List UInt8 := dkwX0_done_0 ++ dktX0_done_1
theorem dksX0_done_0 : cX0_done.data.toList.drop 0 = dktX0_done_0 := by decide +kernel
theorem dksX0_done_1 : cX0_done.data.toList.drop 23 = dktX0_done_1 := dk_seg dksX0_done_0 23 rfl rfl
theorem dksX0_done_2 : cX0_done.data.toList.drop 47 = dktX0_done_2 := dk_seg dksX0_done_1 24 rfl rfl
theorem dksX0_done_3 : cX0_done.data.toList.drop 69 = dktX0_done_3 := dk_seg dksX0_done_2 22 rfl rfl
theorem dksX0_done_4 : cX0_done.data.toList.drop 93 = dktX0_done_4 := dk_seg dksX0_done_3 24 rfl rfl
theorem dksX0_done_5 : cX0_done.data.toList.drop 117 = dktX0_done_5 := dk_seg dksX0_done_4 24 rfl rfl
theorem dksX0_done_6 : cX0_done.data.toList.drop 140 = dktX0_done_6 := dk_seg dksX0_done_5 23 rfl rfl
theorem dksX0_done_7 : cX0_done.data.toList.drop 145 = dktX0_done_7 := dk_seg dksX0_done_6 5 rfl rfl
theorem dksX0_done_8 : cX0_done.data.toList.drop 236 = dktX0_done_8 := dk_seg dksX0_done_7 91 rfl rfl
theorem dksX0_done_9 : cX0_done.data.toList.drop 260 = dktX0_done_9 := dk_seg dksX0_done_8 24 rfl rfl
theorem dksX0_done_10 : cX0_done.data.toList.drop 283 = dktX0_done_10 := dk_seg dksX0_done_9 23 rfl rfl
theorem dksX0_done_11 : cX0_done.data.toList.drop 307 = dktX0_done_11 := dk_seg dksX0_done_10 24 rfl rfl
theorem dX0_done_0 : decode cX0_done 0 = .ok (.iload_n 1, 1) := dk_27 (dk_at dksX0_done_0 0 rfl rfl)
theorem dX0_done_1 : decode cX0_done 1 = .ok (.bipush 116, 2) := dk_16 116 (dk_at dksX0_done_0 1 rfl rfl)
theorem dX0_done_3 : decode cX0_done 3 = .ok (.if_icmp .ne 17, 3) := dk_160 0 17 (dk_at dksX0_done_0 3 rfl rfl)
theorem dX0_done_6 : decode cX0_done 6 = .ok (.aload_n 2, 1) := dk_44 (dk_at dksX0_done_0 6 rfl rfl)
theorem dX0_done_7 : decode cX0_done 7 = .ok (.iconst 0, 1) := dk_3 (dk_at dksX0_done_0 7 rfl rfl)
theorem dX0_done_8 : decode cX0_done 8 = .ok (.iaload, 1) := dk_46 (dk_at dksX0_done_0 8 rfl rfl)
theorem dX0_done_9 : decode cX0_done 9 = .ok (.i2l, 1) := dk_133 (dk_at dksX0_done_0 9 rfl rfl)
theorem dX0_done_10 : decode cX0_done 10 = .ok (.lconst 1, 1) := dk_10 (dk_at dksX0_done_0 10 rfl rfl)
theorem dX0_done_11 : decode cX0_done 11 = .ok (.ldc2_w 50, 3) := dk_20 0 50 (dk_at dksX0_done_0 11 rfl rfl)
theorem dX0_done_14 : decode cX0_done 14 = .ok (.invokestatic 44, 3) := dk_184 0 44 (dk_at dksX0_done_0 14 rfl rfl)
theorem dX0_done_17 : decode cX0_done 17 = .ok (.goto 27, 3) := dk_167 0 27 (dk_at dksX0_done_0 17 rfl rfl)
theorem dX0_done_20 : decode cX0_done 20 = .ok (.ldc 52, 2) := dk_18 52 (dk_at dksX0_done_0 20 rfl rfl)
theorem dX0_done_22 : decode cX0_done 22 = .ok (.iload_n 1, 1) := dk_27 (dk_at dksX0_done_0 22 rfl rfl)
theorem dX0_done_23 : decode cX0_done 23 = .ok (.invokevirtual 54, 3) := dk_182 0 54 (dk_at dksX0_done_1 0 rfl rfl)
theorem dX0_done_26 : decode cX0_done 26 = .ok (.ifCond .lt 12, 3) := dk_155 0 12 (dk_at dksX0_done_1 3 rfl rfl)
theorem dX0_done_29 : decode cX0_done 29 = .ok (.aload_n 2, 1) := dk_44 (dk_at dksX0_done_1 6 rfl rfl)
theorem dX0_done_30 : decode cX0_done 30 = .ok (.iconst 0, 1) := dk_3 (dk_at dksX0_done_1 7 rfl rfl)
theorem dX0_done_31 : decode cX0_done 31 = .ok (.iaload, 1) := dk_46 (dk_at dksX0_done_1 8 rfl rfl)
theorem dX0_done_32 : decode cX0_done 32 = .ok (.invokestatic 60, 3) := dk_184 0 60 (dk_at dksX0_done_1 9 rfl rfl)
theorem dX0_done_35 : decode cX0_done 35 = .ok (.goto 9, 3) := dk_167 0 9 (dk_at dksX0_done_1 12 rfl rfl)
theorem dX0_done_38 : decode cX0_done 38 = .ok (.aload_n 2, 1) := dk_44 (dk_at dksX0_done_1 15 rfl rfl)
theorem dX0_done_39 : decode cX0_done 39 = .ok (.iconst 0, 1) := dk_3 (dk_at dksX0_done_1 16 rfl rfl)
theorem dX0_done_40 : decode cX0_done 40 = .ok (.iaload, 1) := dk_46 (dk_at dksX0_done_1 17 rfl rfl)
theorem dX0_done_41 : decode cX0_done 41 = .ok (.invokestatic 64, 3) := dk_184 0 64 (dk_at dksX0_done_1 18 rfl rfl)
theorem dX0_done_44 : decode cX0_done 44 = .ok (.istore_n 3, 1) := dk_62 (dk_at dksX0_done_1 21 rfl rfl)
theorem dX0_done_45 : decode cX0_done 45 = .ok (.iload_n 3, 1) := dk_29 (dk_at dksX0_done_1 22 rfl rfl)
theorem dX0_done_46 : decode cX0_done 46 = .ok (.iload_n 1, 1) := dk_27 (dk_at dksX0_done_1 23 rfl rfl)
theorem dX0_done_47 : decode cX0_done 47 = .ok (.bipush 112, 2) := dk_16 112 (dk_at dksX0_done_2 0 rfl rfl)
theorem dX0_done_49 : decode cX0_done 49 = .ok (.if_icmp .ne 26, 3) := dk_160 0 26 (dk_at dksX0_done_2 2 rfl rfl)
theorem dX0_done_52 : decode cX0_done 52 = .ok (.aload_n 2, 1) := dk_44 (dk_at dksX0_done_2 5 rfl rfl)
theorem dX0_done_53 : decode cX0_done 53 = .ok (.iconst 1, 1) := dk_4 (dk_at dksX0_done_2 6 rfl rfl)
theorem dX0_done_54 : decode cX0_done 54 = .ok (.iaload, 1) := dk_46 (dk_at dksX0_done_2 7 rfl rfl)
theorem dX0_done_55 : decode cX0_done 55 = .ok (.invokestatic 67, 3) := dk_184 0 67 (dk_at dksX0_done_2 8 rfl rfl)
theorem dX0_done_58 : decode cX0_done 58 = .ok (.ifCond .eq 21, 3) := dk_153 0 21 (dk_at dksX0_done_2 11 rfl rfl)
theorem dX0_done_61 : decode cX0_done 61 = .ok (.aload_n 2, 1) := dk_44 (dk_at dksX0_done_2 14 rfl rfl)
theorem dX0_done_62 : decode cX0_done 62 = .ok (.iconst 2, 1) := dk_5 (dk_at dksX0_done_2 15 rfl rfl)
theorem dX0_done_63 : decode cX0_done 63 = .ok (.iaload, 1) := dk_46 (dk_at dksX0_done_2 16 rfl rfl)
theorem dX0_done_64 : decode cX0_done 64 = .ok (.i2l, 1) := dk_133 (dk_at dksX0_done_2 17 rfl rfl)
theorem dX0_done_65 : decode cX0_done 65 = .ok (.lconst 0, 1) := dk_9 (dk_at dksX0_done_2 18 rfl rfl)
theorem dX0_done_66 : decode cX0_done 66 = .ok (.ldc2_w 70, 3) := dk_20 0 70 (dk_at dksX0_done_2 19 rfl rfl)
theorem dX0_done_69 : decode cX0_done 69 = .ok (.invokestatic 44, 3) := dk_184 0 44 (dk_at dksX0_done_3 0 rfl rfl)
theorem dX0_done_72 : decode cX0_done 72 = .ok (.ifCond .eq 7, 3) := dk_153 0 7 (dk_at dksX0_done_3 3 rfl rfl)
theorem dX0_done_75 : decode cX0_done 75 = .ok (.iconst 1, 1) := dk_4 (dk_at dksX0_done_3 6 rfl rfl)
theorem dX0_done_76 : decode cX0_done 76 = .ok (.goto 4, 3) := dk_167 0 4 (dk_at dksX0_done_3 7 rfl rfl)
theorem dX0_done_79 : decode cX0_done 79 = .ok (.iconst 0, 1) := dk_3 (dk_at dksX0_done_3 10 rfl rfl)
theorem dX0_done_80 : decode cX0_done 80 = .ok (.iand, 1) := dk_126 (dk_at dksX0_done_3 11 rfl rfl)
theorem dX0_done_81 : decode cX0_done 81 = .ok (.istore_n 3, 1) := dk_62 (dk_at dksX0_done_3 12 rfl rfl)
theorem dX0_done_82 : decode cX0_done 82 = .ok (.iload_n 3, 1) := dk_29 (dk_at dksX0_done_3 13 rfl rfl)
theorem dX0_done_83 : decode cX0_done 83 = .ok (.iload_n 1, 1) := dk_27 (dk_at dksX0_done_3 14 rfl rfl)
theorem dX0_done_84 : decode cX0_done 84 = .ok (.bipush 115, 2) := dk_16 115 (dk_at dksX0_done_3 15 rfl rfl)
theorem dX0_done_86 : decode cX0_done 86 = .ok (.if_icmp .ne 17, 3) := dk_160 0 17 (dk_at dksX0_done_3 17 rfl rfl)
theorem dX0_done_89 : decode cX0_done 89 = .ok (.aload_n 2, 1) := dk_44 (dk_at dksX0_done_3 20 rfl rfl)
theorem dX0_done_90 : decode cX0_done 90 = .ok (.iconst 1, 1) := dk_4 (dk_at dksX0_done_3 21 rfl rfl)
theorem dX0_done_91 : decode cX0_done 91 = .ok (.iaload, 1) := dk_46 (dk_at dksX0_done_3 22 rfl rfl)
theorem dX0_done_92 : decode cX0_done 92 = .ok (.i2l, 1) := dk_133 (dk_at dksX0_done_3 23 rfl rfl)
theorem dX0_done_93 : decode cX0_done 93 = .ok (.lconst 1, 1) := dk_10 (dk_at dksX0_done_4 0 rfl rfl)
theorem dX0_done_94 : decode cX0_done 94 = .ok (.ldc2_w 72, 3) := dk_20 0 72 (dk_at dksX0_done_4 1 rfl rfl)
theorem dX0_done_97 : decode cX0_done 97 = .ok (.invokestatic 44, 3) := dk_184 0 44 (dk_at dksX0_done_4 4 rfl rfl)
theorem dX0_done_100 : decode cX0_done 100 = .ok (.ifCond .eq 7, 3) := dk_153 0 7 (dk_at dksX0_done_4 7 rfl rfl)
theorem dX0_done_103 : decode cX0_done 103 = .ok (.iconst 1, 1) := dk_4 (dk_at dksX0_done_4 10 rfl rfl)
theorem dX0_done_104 : decode cX0_done 104 = .ok (.goto 4, 3) := dk_167 0 4 (dk_at dksX0_done_4 11 rfl rfl)
theorem dX0_done_107 : decode cX0_done 107 = .ok (.iconst 0, 1) := dk_3 (dk_at dksX0_done_4 14 rfl rfl)
theorem dX0_done_108 : decode cX0_done 108 = .ok (.iand, 1) := dk_126 (dk_at dksX0_done_4 15 rfl rfl)
theorem dX0_done_109 : decode cX0_done 109 = .ok (.istore_n 3, 1) := dk_62 (dk_at dksX0_done_4 16 rfl rfl)
theorem dX0_done_110 : decode cX0_done 110 = .ok (.iload_n 3, 1) := dk_29 (dk_at dksX0_done_4 17 rfl rfl)
theorem dX0_done_111 : decode cX0_done 111 = .ok (.iload_n 1, 1) := dk_27 (dk_at dksX0_done_4 18 rfl rfl)
theorem dX0_done_112 : decode cX0_done 112 = .ok (.bipush 108, 2) := dk_16 108 (dk_at dksX0_done_4 19 rfl rfl)
theorem dX0_done_114 : decode cX0_done 114 = .ok (.if_icmp .ne 9, 3) := dk_160 0 9 (dk_at dksX0_done_4 21 rfl rfl)
theorem dX0_done_117 : decode cX0_done 117 = .ok (.aload_n 2, 1) := dk_44 (dk_at dksX0_done_5 0 rfl rfl)
theorem dX0_done_118 : decode cX0_done 118 = .ok (.iconst 1, 1) := dk_4 (dk_at dksX0_done_5 1 rfl rfl)
theorem dX0_done_119 : decode cX0_done 119 = .ok (.iaload, 1) := dk_46 (dk_at dksX0_done_5 2 rfl rfl)
theorem dX0_done_120 : decode cX0_done 120 = .ok (.ifCond .le 7, 3) := dk_158 0 7 (dk_at dksX0_done_5 3 rfl rfl)
theorem dX0_done_123 : decode cX0_done 123 = .ok (.iconst 1, 1) := dk_4 (dk_at dksX0_done_5 6 rfl rfl)
theorem dX0_done_124 : decode cX0_done 124 = .ok (.goto 4, 3) := dk_167 0 4 (dk_at dksX0_done_5 7 rfl rfl)
theorem dX0_done_127 : decode cX0_done 127 = .ok (.iconst 0, 1) := dk_3 (dk_at dksX0_done_5 10 rfl rfl)
theorem dX0_done_128 : decode cX0_done 128 = .ok (.iand, 1) := dk_126 (dk_at dksX0_done_5 11 rfl rfl)
theorem dX0_done_129 : decode cX0_done 129 = .ok (.istore_n 3, 1) := dk_62 (dk_at dksX0_done_5 12 rfl rfl)
theorem dX0_done_130 : decode cX0_done 130 = .ok (.iload_n 3, 1) := dk_29 (dk_at dksX0_done_5 13 rfl rfl)
theorem dX0_done_131 : decode cX0_done 131 = .ok (.ifCond .ne 13, 3) := dk_154 0 13 (dk_at dksX0_done_5 14 rfl rfl)
theorem dX0_done_134 : decode cX0_done 134 = .ok (.new 74, 3) := dk_187 0 74 (dk_at dksX0_done_5 17 rfl rfl)
theorem dX0_done_137 : decode cX0_done 137 = .ok (.dup, 1) := dk_89 (dk_at dksX0_done_5 20 rfl rfl)
theorem dX0_done_138 : decode cX0_done 138 = .ok (.ldc 76, 2) := dk_18 76 (dk_at dksX0_done_5 21 rfl rfl)
theorem dX0_done_140 : decode cX0_done 140 = .ok (.invokespecial 77, 3) := dk_183 0 77 (dk_at dksX0_done_6 0 rfl rfl)
theorem dX0_done_143 : decode cX0_done 143 = .ok (.athrow, 1) := dk_191 (dk_at dksX0_done_6 3 rfl rfl)
theorem dX0_done_144 : decode cX0_done 144 = .ok (.iload_n 1, 1) := dk_27 (dk_at dksX0_done_6 4 rfl rfl)
theorem dX0_done_145 : decode cX0_done 145 = .ok (.tableswitch 169 97 115 #[122, 169, 113, 169, 169, 169, 161, 169, 169, 169, 169, 142, 169, 169, 91, 99, 169, 153, 131], 91) := by decide +kernel
theorem dX0_done_236 : decode cX0_done 236 = .ok (.aload_n 0, 1) := dk_42 (dk_at dksX0_done_8 0 rfl rfl)
theorem dX0_done_237 : decode cX0_done 237 = .ok (.aload_n 2, 1) := dk_44 (dk_at dksX0_done_8 1 rfl rfl)
theorem dX0_done_238 : decode cX0_done 238 = .ok (.iconst 0, 1) := dk_3 (dk_at dksX0_done_8 2 rfl rfl)
theorem dX0_done_239 : decode cX0_done 239 = .ok (.iaload, 1) := dk_46 (dk_at dksX0_done_8 3 rfl rfl)
theorem dX0_done_240 : decode cX0_done 240 = .ok (.invokevirtual 80, 3) := dk_182 0 80 (dk_at dksX0_done_8 4 rfl rfl)
theorem dX0_done_243 : decode cX0_done 243 = .ok (.ireturn, 1) := dk_172 (dk_at dksX0_done_8 7 rfl rfl)
theorem dX0_done_244 : decode cX0_done 244 = .ok (.aload_n 0, 1) := dk_42 (dk_at dksX0_done_8 8 rfl rfl)
theorem dX0_done_245 : decode cX0_done 245 = .ok (.aload_n 2, 1) := dk_44 (dk_at dksX0_done_8 9 rfl rfl)
theorem dX0_done_246 : decode cX0_done 246 = .ok (.iconst 0, 1) := dk_3 (dk_at dksX0_done_8 10 rfl rfl)
theorem dX0_done_247 : decode cX0_done 247 = .ok (.iaload, 1) := dk_46 (dk_at dksX0_done_8 11 rfl rfl)
theorem dX0_done_248 : decode cX0_done 248 = .ok (.aload_n 2, 1) := dk_44 (dk_at dksX0_done_8 12 rfl rfl)
theorem dX0_done_249 : decode cX0_done 249 = .ok (.iconst 1, 1) := dk_4 (dk_at dksX0_done_8 13 rfl rfl)
theorem dX0_done_250 : decode cX0_done 250 = .ok (.iaload, 1) := dk_46 (dk_at dksX0_done_8 14 rfl rfl)
theorem dX0_done_251 : decode cX0_done 251 = .ok (.aload_n 2, 1) := dk_44 (dk_at dksX0_done_8 15 rfl rfl)
theorem dX0_done_252 : decode cX0_done 252 = .ok (.iconst 2, 1) := dk_5 (dk_at dksX0_done_8 16 rfl rfl)
theorem dX0_done_253 : decode cX0_done 253 = .ok (.iaload, 1) := dk_46 (dk_at dksX0_done_8 17 rfl rfl)
theorem dX0_done_254 : decode cX0_done 254 = .ok (.invokevirtual 83, 3) := dk_182 0 83 (dk_at dksX0_done_8 18 rfl rfl)
theorem dX0_done_257 : decode cX0_done 257 = .ok (.ireturn, 1) := dk_172 (dk_at dksX0_done_8 21 rfl rfl)
theorem dX0_done_258 : decode cX0_done 258 = .ok (.aload_n 0, 1) := dk_42 (dk_at dksX0_done_8 22 rfl rfl)
theorem dX0_done_259 : decode cX0_done 259 = .ok (.aload_n 2, 1) := dk_44 (dk_at dksX0_done_8 23 rfl rfl)
theorem dX0_done_260 : decode cX0_done 260 = .ok (.iconst 0, 1) := dk_3 (dk_at dksX0_done_9 0 rfl rfl)
theorem dX0_done_261 : decode cX0_done 261 = .ok (.iaload, 1) := dk_46 (dk_at dksX0_done_9 1 rfl rfl)
theorem dX0_done_262 : decode cX0_done 262 = .ok (.iconst 1, 1) := dk_4 (dk_at dksX0_done_9 2 rfl rfl)
theorem dX0_done_263 : decode cX0_done 263 = .ok (.invokevirtual 87, 3) := dk_182 0 87 (dk_at dksX0_done_9 3 rfl rfl)
theorem dX0_done_266 : decode cX0_done 266 = .ok (.ireturn, 1) := dk_172 (dk_at dksX0_done_9 6 rfl rfl)
theorem dX0_done_267 : decode cX0_done 267 = .ok (.aload_n 0, 1) := dk_42 (dk_at dksX0_done_9 7 rfl rfl)
theorem dX0_done_268 : decode cX0_done 268 = .ok (.aload_n 2, 1) := dk_44 (dk_at dksX0_done_9 8 rfl rfl)
theorem dX0_done_269 : decode cX0_done 269 = .ok (.iconst 0, 1) := dk_3 (dk_at dksX0_done_9 9 rfl rfl)
theorem dX0_done_270 : decode cX0_done 270 = .ok (.iaload, 1) := dk_46 (dk_at dksX0_done_9 10 rfl rfl)
theorem dX0_done_271 : decode cX0_done 271 = .ok (.iconst 2, 1) := dk_5 (dk_at dksX0_done_9 11 rfl rfl)
theorem dX0_done_272 : decode cX0_done 272 = .ok (.invokevirtual 87, 3) := dk_182 0 87 (dk_at dksX0_done_9 12 rfl rfl)
theorem dX0_done_275 : decode cX0_done 275 = .ok (.ireturn, 1) := dk_172 (dk_at dksX0_done_9 15 rfl rfl)
theorem dX0_done_276 : decode cX0_done 276 = .ok (.aload_n 0, 1) := dk_42 (dk_at dksX0_done_9 16 rfl rfl)
theorem dX0_done_277 : decode cX0_done 277 = .ok (.aload_n 2, 1) := dk_44 (dk_at dksX0_done_9 17 rfl rfl)
theorem dX0_done_278 : decode cX0_done 278 = .ok (.iconst 0, 1) := dk_3 (dk_at dksX0_done_9 18 rfl rfl)
theorem dX0_done_279 : decode cX0_done 279 = .ok (.iaload, 1) := dk_46 (dk_at dksX0_done_9 19 rfl rfl)
theorem dX0_done_280 : decode cX0_done 280 = .ok (.aload_n 2, 1) := dk_44 (dk_at dksX0_done_9 20 rfl rfl)
theorem dX0_done_281 : decode cX0_done 281 = .ok (.iconst 1, 1) := dk_4 (dk_at dksX0_done_9 21 rfl rfl)
theorem dX0_done_282 : decode cX0_done 282 = .ok (.iaload, 1) := dk_46 (dk_at dksX0_done_9 22 rfl rfl)
theorem dX0_done_283 : decode cX0_done 283 = .ok (.invokevirtual 91, 3) := dk_182 0 91 (dk_at dksX0_done_10 0 rfl rfl)
theorem dX0_done_286 : decode cX0_done 286 = .ok (.ireturn, 1) := dk_172 (dk_at dksX0_done_10 3 rfl rfl)
theorem dX0_done_287 : decode cX0_done 287 = .ok (.aload_n 0, 1) := dk_42 (dk_at dksX0_done_10 4 rfl rfl)
theorem dX0_done_288 : decode cX0_done 288 = .ok (.aload_n 2, 1) := dk_44 (dk_at dksX0_done_10 5 rfl rfl)
theorem dX0_done_289 : decode cX0_done 289 = .ok (.iconst 0, 1) := dk_3 (dk_at dksX0_done_10 6 rfl rfl)
theorem dX0_done_290 : decode cX0_done 290 = .ok (.iaload, 1) := dk_46 (dk_at dksX0_done_10 7 rfl rfl)
theorem dX0_done_291 : decode cX0_done 291 = .ok (.aload_n 2, 1) := dk_44 (dk_at dksX0_done_10 8 rfl rfl)
theorem dX0_done_292 : decode cX0_done 292 = .ok (.iconst 1, 1) := dk_4 (dk_at dksX0_done_10 9 rfl rfl)
theorem dX0_done_293 : decode cX0_done 293 = .ok (.iaload, 1) := dk_46 (dk_at dksX0_done_10 10 rfl rfl)
theorem dX0_done_294 : decode cX0_done 294 = .ok (.invokevirtual 94, 3) := dk_182 0 94 (dk_at dksX0_done_10 11 rfl rfl)
theorem dX0_done_297 : decode cX0_done 297 = .ok (.ireturn, 1) := dk_172 (dk_at dksX0_done_10 14 rfl rfl)
theorem dX0_done_298 : decode cX0_done 298 = .ok (.aload_n 0, 1) := dk_42 (dk_at dksX0_done_10 15 rfl rfl)
theorem dX0_done_299 : decode cX0_done 299 = .ok (.aload_n 2, 1) := dk_44 (dk_at dksX0_done_10 16 rfl rfl)
theorem dX0_done_300 : decode cX0_done 300 = .ok (.iconst 0, 1) := dk_3 (dk_at dksX0_done_10 17 rfl rfl)
theorem dX0_done_301 : decode cX0_done 301 = .ok (.iaload, 1) := dk_46 (dk_at dksX0_done_10 18 rfl rfl)
theorem dX0_done_302 : decode cX0_done 302 = .ok (.invokevirtual 97, 3) := dk_182 0 97 (dk_at dksX0_done_10 19 rfl rfl)
theorem dX0_done_305 : decode cX0_done 305 = .ok (.ireturn, 1) := dk_172 (dk_at dksX0_done_10 22 rfl rfl)
theorem dX0_done_306 : decode cX0_done 306 = .ok (.aload_n 0, 1) := dk_42 (dk_at dksX0_done_10 23 rfl rfl)
theorem dX0_done_307 : decode cX0_done 307 = .ok (.aload_n 2, 1) := dk_44 (dk_at dksX0_done_11 0 rfl rfl)
theorem dX0_done_308 : decode cX0_done 308 = .ok (.iconst 0, 1) := dk_3 (dk_at dksX0_done_11 1 rfl rfl)
theorem dX0_done_309 : decode cX0_done 309 = .ok (.iaload, 1) := dk_46 (dk_at dksX0_done_11 2 rfl rfl)
theorem dX0_done_310 : decode cX0_done 310 = .ok (.invokevirtual 100, 3) := dk_182 0 100 (dk_at dksX0_done_11 3 rfl rfl)
theorem dX0_done_313 : decode cX0_done 313 = .ok (.ireturn, 1) := dk_172 (dk_at dksX0_done_11 6 rfl rfl)
theorem dX0_done_314 : decode cX0_done 314 = .ok (.aload_n 0, 1) := dk_42 (dk_at dksX0_done_11 7 rfl rfl)
theorem dX0_done_315 : decode cX0_done 315 = .ok (.aload_n 2, 1) := dk_44 (dk_at dksX0_done_11 8 rfl rfl)
theorem dX0_done_316 : decode cX0_done 316 = .ok (.iconst 0, 1) := dk_3 (dk_at dksX0_done_11 9 rfl rfl)
theorem dX0_done_317 : decode cX0_done 317 = .ok (.iaload, 1) := dk_46 (dk_at dksX0_done_11 10 rfl rfl)
theorem dX0_done_318 : decode cX0_done 318 = .ok (.invokevirtual 103, 3) := dk_182 0 103 (dk_at dksX0_done_11 11 rfl rfl)
theorem dX0_done_321 : decode cX0_done 321 = .ok (.ireturn, 1) := dk_172 (dk_at dksX0_done_11 14 rfl rfl)
abbrev cX0_isBetween : ByteArray := prog_1_method_1_code
def yX0_isBetween : MethodName := ⟨RX0, "isBetween", "(JJJ)Z"⟩
def dkwX0_isBetween_0 : List UInt8 := [30, 32, 148, 155, 0, 14, 30, 22, 4, 148, 157, 0, 7, 4, 167, 0, 4, 3, 172]
abbrev dktX0_isBetween_0 : List UInt8 := dkwX0_isBetween_0 ++ []
theorem dksX0_isBetween_0 : cX0_isBetween.data.toList.drop 0 = dktX0_isBetween_0 := by decide +kernel
theorem dX0_isBetween_0 : decode cX0_isBetween 0 = .ok (.lload_n 0, 1) := dk_30 (dk_at dksX0_isBetween_0 0 rfl rfl)
theorem dX0_isBetween_1 : decode cX0_isBetween 1 = .ok (.lload_n 2, 1) := dk_32 (dk_at dksX0_isBetween_0 1 rfl rfl)
theorem dX0_isBetween_2 : decode cX0_isBetween 2 = .ok (.lcmp, 1) := dk_148 (dk_at dksX0_isBetween_0 2 rfl rfl)
theorem dX0_isBetween_3 : decode cX0_isBetween 3 = .ok (.ifCond .lt 14, 3) := dk_155 0 14 (dk_at dksX0_isBetween_0 3 rfl rfl)
theorem dX0_isBetween_6 : decode cX0_isBetween 6 = .ok (.lload_n 0, 1) := dk_30 (dk_at dksX0_isBetween_0 6 rfl rfl)
theorem dX0_isBetween_7 : decode cX0_isBetween 7 = .ok (.lload 4, 2) := dk_22 4 (dk_at dksX0_isBetween_0 7 rfl rfl)
theorem dX0_isBetween_9 : decode cX0_isBetween 9 = .ok (.lcmp, 1) := dk_148 (dk_at dksX0_isBetween_0 9 rfl rfl)
theorem dX0_isBetween_10 : decode cX0_isBetween 10 = .ok (.ifCond .gt 7, 3) := dk_157 0 7 (dk_at dksX0_isBetween_0 10 rfl rfl)
theorem dX0_isBetween_13 : decode cX0_isBetween 13 = .ok (.iconst 1, 1) := dk_4 (dk_at dksX0_isBetween_0 13 rfl rfl)
theorem dX0_isBetween_14 : decode cX0_isBetween 14 = .ok (.goto 4, 3) := dk_167 0 4 (dk_at dksX0_isBetween_0 14 rfl rfl)
theorem dX0_isBetween_17 : decode cX0_isBetween 17 = .ok (.iconst 0, 1) := dk_3 (dk_at dksX0_isBetween_0 17 rfl rfl)
theorem dX0_isBetween_18 : decode cX0_isBetween 18 = .ok (.ireturn, 1) := dk_172 (dk_at dksX0_isBetween_0 18 rfl rfl)
abbrev cX0_isStandby : ByteArray := prog_1_method_6_code
def yX0_isStandby : MethodName := ⟨RX0, "isStandby", "(I)Z"⟩
def dkwX0_isStandby_0 : List UInt8 := [26, 133, 9, 10, 184, 0, 44, 172]
abbrev dktX0_isStandby_0 : List UInt8 := dkwX0_isStandby_0 ++ []
theorem dksX0_isStandby_0 : cX0_isStandby.data.toList.drop 0 = dktX0_isStandby_0 := by decide +kernel
theorem dX0_isStandby_0 : decode cX0_isStandby 0 = .ok (.iload_n 0, 1) := dk_26 (dk_at dksX0_isStandby_0 0 rfl rfl)
theorem dX0_isStandby_1 : decode cX0_isStandby 1 = .ok (.i2l, 1) := dk_133 (dk_at dksX0_isStandby_0 1 rfl rfl)
theorem dX0_isStandby_2 : decode cX0_isStandby 2 = .ok (.lconst 0, 1) := dk_9 (dk_at dksX0_isStandby_0 2 rfl rfl)
theorem dX0_isStandby_3 : decode cX0_isStandby 3 = .ok (.lconst 1, 1) := dk_10 (dk_at dksX0_isStandby_0 3 rfl rfl)
theorem dX0_isStandby_4 : decode cX0_isStandby 4 = .ok (.invokestatic 44, 3) := dk_184 0 44 (dk_at dksX0_isStandby_0 4 rfl rfl)
theorem dX0_isStandby_7 : decode cX0_isStandby 7 = .ok (.ireturn, 1) := dk_172 (dk_at dksX0_isStandby_0 7 rfl rfl)
abbrev cX0_isSlot : ByteArray := prog_1_method_4_code
def yX0_isSlot : MethodName := ⟨RX0, "isSlot", "(I)Z"⟩
def dkwX0_isSlot_0 : List UInt8 := [26, 133, 9, 20, 0, 42, 184, 0, 44, 172]
abbrev dktX0_isSlot_0 : List UInt8 := dkwX0_isSlot_0 ++ []
theorem dksX0_isSlot_0 : cX0_isSlot.data.toList.drop 0 = dktX0_isSlot_0 := by decide +kernel
theorem dX0_isSlot_0 : decode cX0_isSlot 0 = .ok (.iload_n 0, 1) := dk_26 (dk_at dksX0_isSlot_0 0 rfl rfl)
theorem dX0_isSlot_1 : decode cX0_isSlot 1 = .ok (.i2l, 1) := dk_133 (dk_at dksX0_isSlot_0 1 rfl rfl)
theorem dX0_isSlot_2 : decode cX0_isSlot 2 = .ok (.lconst 0, 1) := dk_9 (dk_at dksX0_isSlot_0 2 rfl rfl)
theorem dX0_isSlot_3 : decode cX0_isSlot 3 = .ok (.ldc2_w 42, 3) := dk_20 0 42 (dk_at dksX0_isSlot_0 3 rfl rfl)
theorem dX0_isSlot_6 : decode cX0_isSlot 6 = .ok (.invokestatic 44, 3) := dk_184 0 44 (dk_at dksX0_isSlot_0 6 rfl rfl)
theorem dX0_isSlot_9 : decode cX0_isSlot 9 = .ok (.ireturn, 1) := dk_172 (dk_at dksX0_isSlot_0 9 rfl rfl)
abbrev cX0_isKey : ByteArray := prog_1_method_5_code
def yX0_isKey : MethodName := ⟨RX0, "isKey", "(I)Z"⟩
def dkwX0_isKey_0 : List UInt8 := [26, 133, 9, 20, 0, 48, 184, 0, 44, 172]
abbrev dktX0_isKey_0 : List UInt8 := dkwX0_isKey_0 ++ []
theorem dksX0_isKey_0 : cX0_isKey.data.toList.drop 0 = dktX0_isKey_0 := by decide +kernel
theorem dX0_isKey_0 : decode cX0_isKey 0 = .ok (.iload_n 0, 1) := dk_26 (dk_at dksX0_isKey_0 0 rfl rfl)
theorem dX0_isKey_1 : decode cX0_isKey 1 = .ok (.i2l, 1) := dk_133 (dk_at dksX0_isKey_0 1 rfl rfl)
theorem dX0_isKey_2 : decode cX0_isKey 2 = .ok (.lconst 0, 1) := dk_9 (dk_at dksX0_isKey_0 2 rfl rfl)
theorem dX0_isKey_3 : decode cX0_isKey 3 = .ok (.ldc2_w 48, 3) := dk_20 0 48 (dk_at dksX0_isKey_0 3 rfl rfl)
theorem dX0_isKey_6 : decode cX0_isKey 6 = .ok (.invokestatic 44, 3) := dk_184 0 44 (dk_at dksX0_isKey_0 6 rfl rfl)
theorem dX0_isKey_9 : decode cX0_isKey 9 = .ok (.ireturn, 1) := dk_172 (dk_at dksX0_isKey_0 9 rfl rfl)
abbrev cX0_changed : ByteArray := prog_1_method_3_code
def yX0_changed : MethodName := ⟨RX0, "changed", "(LFencedStandbys$Store;I)I"⟩
def dkwX0_changed_1 : List UInt8 := [180, 0, 19, 182, 0, 38, 87, 42, 43, 181, 0, 10, 28, 172]
abbrev dktX0_changed_1 : List UInt8 := dkwX0_changed_1 ++ []
def dkwX0_changed_0 : List UInt8 := [42, 180, 0, 19, 42, 180, 0, 10, 182, 0, 30, 42, 180, 0, 19, 182, 0, 34, 7, 164, 0, 11, 42]
abbrev dktX0_changed_0 : List UInt8 := dkwX0_changed_0 ++ dktX0_changed_1
theorem dksX0_changed_0 : cX0_changed.data.toList.drop 0 = dktX0_changed_0 := by decide +kernel
theorem dksX0_changed_1 : cX0_changed.data.toList.drop 23 = dktX0_changed_1 := dk_seg dksX0_changed_0 23 rfl rfl
theorem dX0_changed_0 : decode cX0_changed 0 = .ok (.aload_n 0, 1) := dk_42 (dk_at dksX0_changed_0 0 rfl rfl)
theorem dX0_changed_1 : decode cX0_changed 1 = .ok (.getfield 19, 3) := dk_180 0 19 (dk_at dksX0_changed_0 1 rfl rfl)
theorem dX0_changed_4 : decode cX0_changed 4 = .ok (.aload_n 0, 1) := dk_42 (dk_at dksX0_changed_0 4 rfl rfl)
theorem dX0_changed_5 : decode cX0_changed 5 = .ok (.getfield 10, 3) := dk_180 0 10 (dk_at dksX0_changed_0 5 rfl rfl)
theorem dX0_changed_8 : decode cX0_changed 8 = .ok (.invokevirtual 30, 3) := dk_182 0 30 (dk_at dksX0_changed_0 8 rfl rfl)
theorem dX0_changed_11 : decode cX0_changed 11 = .ok (.aload_n 0, 1) := dk_42 (dk_at dksX0_changed_0 11 rfl rfl)
theorem dX0_changed_12 : decode cX0_changed 12 = .ok (.getfield 19, 3) := dk_180 0 19 (dk_at dksX0_changed_0 12 rfl rfl)
theorem dX0_changed_15 : decode cX0_changed 15 = .ok (.invokevirtual 34, 3) := dk_182 0 34 (dk_at dksX0_changed_0 15 rfl rfl)
theorem dX0_changed_18 : decode cX0_changed 18 = .ok (.iconst 4, 1) := dk_7 (dk_at dksX0_changed_0 18 rfl rfl)
theorem dX0_changed_19 : decode cX0_changed 19 = .ok (.if_icmp .le 11, 3) := dk_164 0 11 (dk_at dksX0_changed_0 19 rfl rfl)
theorem dX0_changed_22 : decode cX0_changed 22 = .ok (.aload_n 0, 1) := dk_42 (dk_at dksX0_changed_0 22 rfl rfl)
theorem dX0_changed_23 : decode cX0_changed 23 = .ok (.getfield 19, 3) := dk_180 0 19 (dk_at dksX0_changed_1 0 rfl rfl)
theorem dX0_changed_26 : decode cX0_changed 26 = .ok (.invokevirtual 38, 3) := dk_182 0 38 (dk_at dksX0_changed_1 3 rfl rfl)
theorem dX0_changed_29 : decode cX0_changed 29 = .ok (.pop, 1) := dk_87 (dk_at dksX0_changed_1 6 rfl rfl)
theorem dX0_changed_30 : decode cX0_changed 30 = .ok (.aload_n 0, 1) := dk_42 (dk_at dksX0_changed_1 7 rfl rfl)
theorem dX0_changed_31 : decode cX0_changed 31 = .ok (.aload_n 1, 1) := dk_43 (dk_at dksX0_changed_1 8 rfl rfl)
theorem dX0_changed_32 : decode cX0_changed 32 = .ok (.putfield 10, 3) := dk_181 0 10 (dk_at dksX0_changed_1 9 rfl rfl)
theorem dX0_changed_35 : decode cX0_changed 35 = .ok (.iload_n 2, 1) := dk_28 (dk_at dksX0_changed_1 12 rfl rfl)
theorem dX0_changed_36 : decode cX0_changed 36 = .ok (.ireturn, 1) := dk_172 (dk_at dksX0_changed_1 13 rfl rfl)
abbrev cX0_put : ByteArray := prog_1_method_10_code
def yX0_put : MethodName := ⟨RX0, "put", "(III)I"⟩
def dkwX0_put_0 : List UInt8 := [42, 16, 112, 6, 188, 10, 89, 3, 27, 79, 89, 4, 28, 79, 89, 5, 29, 79, 182, 0, 121, 172]
abbrev dktX0_put_0 : List UInt8 := dkwX0_put_0 ++ []
theorem dksX0_put_0 : cX0_put.data.toList.drop 0 = dktX0_put_0 := by decide +kernel
theorem dX0_put_0 : decode cX0_put 0 = .ok (.aload_n 0, 1) := dk_42 (dk_at dksX0_put_0 0 rfl rfl)
theorem dX0_put_1 : decode cX0_put 1 = .ok (.bipush 112, 2) := dk_16 112 (dk_at dksX0_put_0 1 rfl rfl)
theorem dX0_put_3 : decode cX0_put 3 = .ok (.iconst 3, 1) := dk_6 (dk_at dksX0_put_0 3 rfl rfl)
theorem dX0_put_4 : decode cX0_put 4 = .ok (.newarray .int, 2) := dk_188_10 (dk_at dksX0_put_0 4 rfl rfl)
theorem dX0_put_6 : decode cX0_put 6 = .ok (.dup, 1) := dk_89 (dk_at dksX0_put_0 6 rfl rfl)
theorem dX0_put_7 : decode cX0_put 7 = .ok (.iconst 0, 1) := dk_3 (dk_at dksX0_put_0 7 rfl rfl)
theorem dX0_put_8 : decode cX0_put 8 = .ok (.iload_n 1, 1) := dk_27 (dk_at dksX0_put_0 8 rfl rfl)
theorem dX0_put_9 : decode cX0_put 9 = .ok (.iastore, 1) := dk_79 (dk_at dksX0_put_0 9 rfl rfl)
theorem dX0_put_10 : decode cX0_put 10 = .ok (.dup, 1) := dk_89 (dk_at dksX0_put_0 10 rfl rfl)
theorem dX0_put_11 : decode cX0_put 11 = .ok (.iconst 1, 1) := dk_4 (dk_at dksX0_put_0 11 rfl rfl)
theorem dX0_put_12 : decode cX0_put 12 = .ok (.iload_n 2, 1) := dk_28 (dk_at dksX0_put_0 12 rfl rfl)
theorem dX0_put_13 : decode cX0_put 13 = .ok (.iastore, 1) := dk_79 (dk_at dksX0_put_0 13 rfl rfl)
theorem dX0_put_14 : decode cX0_put 14 = .ok (.dup, 1) := dk_89 (dk_at dksX0_put_0 14 rfl rfl)
theorem dX0_put_15 : decode cX0_put 15 = .ok (.iconst 2, 1) := dk_5 (dk_at dksX0_put_0 15 rfl rfl)
theorem dX0_put_16 : decode cX0_put 16 = .ok (.iload_n 3, 1) := dk_29 (dk_at dksX0_put_0 16 rfl rfl)
theorem dX0_put_17 : decode cX0_put 17 = .ok (.iastore, 1) := dk_79 (dk_at dksX0_put_0 17 rfl rfl)
theorem dX0_put_18 : decode cX0_put 18 = .ok (.invokevirtual 121, 3) := dk_182 0 121 (dk_at dksX0_put_0 18 rfl rfl)
theorem dX0_put_21 : decode cX0_put 21 = .ok (.ireturn, 1) := dk_172 (dk_at dksX0_put_0 21 rfl rfl)
abbrev cX0_commit : ByteArray := prog_1_method_11_code
def yX0_commit : MethodName := ⟨RX0, "commit", "(I)I"⟩
def dkwX0_commit_0 : List UInt8 := [42, 16, 99, 4, 188, 10, 89, 3, 27, 79, 182, 0, 121, 172]
abbrev dktX0_commit_0 : List UInt8 := dkwX0_commit_0 ++ []
theorem dksX0_commit_0 : cX0_commit.data.toList.drop 0 = dktX0_commit_0 := by decide +kernel
theorem dX0_commit_0 : decode cX0_commit 0 = .ok (.aload_n 0, 1) := dk_42 (dk_at dksX0_commit_0 0 rfl rfl)
theorem dX0_commit_1 : decode cX0_commit 1 = .ok (.bipush 99, 2) := dk_16 99 (dk_at dksX0_commit_0 1 rfl rfl)
theorem dX0_commit_3 : decode cX0_commit 3 = .ok (.iconst 1, 1) := dk_4 (dk_at dksX0_commit_0 3 rfl rfl)
theorem dX0_commit_4 : decode cX0_commit 4 = .ok (.newarray .int, 2) := dk_188_10 (dk_at dksX0_commit_0 4 rfl rfl)
theorem dX0_commit_6 : decode cX0_commit 6 = .ok (.dup, 1) := dk_89 (dk_at dksX0_commit_0 6 rfl rfl)
theorem dX0_commit_7 : decode cX0_commit 7 = .ok (.iconst 0, 1) := dk_3 (dk_at dksX0_commit_0 7 rfl rfl)
theorem dX0_commit_8 : decode cX0_commit 8 = .ok (.iload_n 1, 1) := dk_27 (dk_at dksX0_commit_0 8 rfl rfl)
theorem dX0_commit_9 : decode cX0_commit 9 = .ok (.iastore, 1) := dk_79 (dk_at dksX0_commit_0 9 rfl rfl)
theorem dX0_commit_10 : decode cX0_commit 10 = .ok (.invokevirtual 121, 3) := dk_182 0 121 (dk_at dksX0_commit_0 10 rfl rfl)
theorem dX0_commit_13 : decode cX0_commit 13 = .ok (.ireturn, 1) := dk_172 (dk_at dksX0_commit_0 13 rfl rfl)
abbrev cX0_abort : ByteArray := prog_1_method_12_code
def yX0_abort : MethodName := ⟨RX0, "abort", "(I)I"⟩
def dkwX0_abort_0 : List UInt8 := [42, 16, 97, 4, 188, 10, 89, 3, 27, 79, 182, 0, 121, 172]
abbrev dktX0_abort_0 : List UInt8 := dkwX0_abort_0 ++ []
theorem dksX0_abort_0 : cX0_abort.data.toList.drop 0 = dktX0_abort_0 := by decide +kernel
theorem dX0_abort_0 : decode cX0_abort 0 = .ok (.aload_n 0, 1) := dk_42 (dk_at dksX0_abort_0 0 rfl rfl)
theorem dX0_abort_1 : decode cX0_abort 1 = .ok (.bipush 97, 2) := dk_16 97 (dk_at dksX0_abort_0 1 rfl rfl)
theorem dX0_abort_3 : decode cX0_abort 3 = .ok (.iconst 1, 1) := dk_4 (dk_at dksX0_abort_0 3 rfl rfl)
theorem dX0_abort_4 : decode cX0_abort 4 = .ok (.newarray .int, 2) := dk_188_10 (dk_at dksX0_abort_0 4 rfl rfl)
theorem dX0_abort_6 : decode cX0_abort 6 = .ok (.dup, 1) := dk_89 (dk_at dksX0_abort_0 6 rfl rfl)
theorem dX0_abort_7 : decode cX0_abort 7 = .ok (.iconst 0, 1) := dk_3 (dk_at dksX0_abort_0 7 rfl rfl)
theorem dX0_abort_8 : decode cX0_abort 8 = .ok (.iload_n 1, 1) := dk_27 (dk_at dksX0_abort_0 8 rfl rfl)
theorem dX0_abort_9 : decode cX0_abort 9 = .ok (.iastore, 1) := dk_79 (dk_at dksX0_abort_0 9 rfl rfl)
theorem dX0_abort_10 : decode cX0_abort 10 = .ok (.invokevirtual 121, 3) := dk_182 0 121 (dk_at dksX0_abort_0 10 rfl rfl)
theorem dX0_abort_13 : decode cX0_abort 13 = .ok (.ireturn, 1) := dk_172 (dk_at dksX0_abort_0 13 rfl rfl)
abbrev cX0_ship : ByteArray := prog_1_method_13_code
def yX0_ship : MethodName := ⟨RX0, "ship", "(II)I"⟩
def dkwX0_ship_0 : List UInt8 := [42, 16, 115, 5, 188, 10, 89, 3, 27, 79, 89, 4, 28, 79, 182, 0, 121, 172]
abbrev dktX0_ship_0 : List UInt8 := dkwX0_ship_0 ++ []
theorem dksX0_ship_0 : cX0_ship.data.toList.drop 0 = dktX0_ship_0 := by decide +kernel
theorem dX0_ship_0 : decode cX0_ship 0 = .ok (.aload_n 0, 1) := dk_42 (dk_at dksX0_ship_0 0 rfl rfl)
theorem dX0_ship_1 : decode cX0_ship 1 = .ok (.bipush 115, 2) := dk_16 115 (dk_at dksX0_ship_0 1 rfl rfl)
theorem dX0_ship_3 : decode cX0_ship 3 = .ok (.iconst 2, 1) := dk_5 (dk_at dksX0_ship_0 3 rfl rfl)
theorem dX0_ship_4 : decode cX0_ship 4 = .ok (.newarray .int, 2) := dk_188_10 (dk_at dksX0_ship_0 4 rfl rfl)
theorem dX0_ship_6 : decode cX0_ship 6 = .ok (.dup, 1) := dk_89 (dk_at dksX0_ship_0 6 rfl rfl)
theorem dX0_ship_7 : decode cX0_ship 7 = .ok (.iconst 0, 1) := dk_3 (dk_at dksX0_ship_0 7 rfl rfl)
theorem dX0_ship_8 : decode cX0_ship 8 = .ok (.iload_n 1, 1) := dk_27 (dk_at dksX0_ship_0 8 rfl rfl)
theorem dX0_ship_9 : decode cX0_ship 9 = .ok (.iastore, 1) := dk_79 (dk_at dksX0_ship_0 9 rfl rfl)
theorem dX0_ship_10 : decode cX0_ship 10 = .ok (.dup, 1) := dk_89 (dk_at dksX0_ship_0 10 rfl rfl)
theorem dX0_ship_11 : decode cX0_ship 11 = .ok (.iconst 1, 1) := dk_4 (dk_at dksX0_ship_0 11 rfl rfl)
theorem dX0_ship_12 : decode cX0_ship 12 = .ok (.iload_n 2, 1) := dk_28 (dk_at dksX0_ship_0 12 rfl rfl)
theorem dX0_ship_13 : decode cX0_ship 13 = .ok (.iastore, 1) := dk_79 (dk_at dksX0_ship_0 13 rfl rfl)
theorem dX0_ship_14 : decode cX0_ship 14 = .ok (.invokevirtual 121, 3) := dk_182 0 121 (dk_at dksX0_ship_0 14 rfl rfl)
theorem dX0_ship_17 : decode cX0_ship 17 = .ok (.ireturn, 1) := dk_172 (dk_at dksX0_ship_0 17 rfl rfl)
abbrev cX0_lose : ByteArray := prog_1_method_14_code
def yX0_lose : MethodName := ⟨RX0, "lose", "(II)I"⟩
def dkwX0_lose_0 : List UInt8 := [42, 16, 108, 5, 188, 10, 89, 3, 27, 79, 89, 4, 28, 79, 182, 0, 121, 172]
abbrev dktX0_lose_0 : List UInt8 := dkwX0_lose_0 ++ []
theorem dksX0_lose_0 : cX0_lose.data.toList.drop 0 = dktX0_lose_0 := by decide +kernel
theorem dX0_lose_0 : decode cX0_lose 0 = .ok (.aload_n 0, 1) := dk_42 (dk_at dksX0_lose_0 0 rfl rfl)
theorem dX0_lose_1 : decode cX0_lose 1 = .ok (.bipush 108, 2) := dk_16 108 (dk_at dksX0_lose_0 1 rfl rfl)
theorem dX0_lose_3 : decode cX0_lose 3 = .ok (.iconst 2, 1) := dk_5 (dk_at dksX0_lose_0 3 rfl rfl)
theorem dX0_lose_4 : decode cX0_lose 4 = .ok (.newarray .int, 2) := dk_188_10 (dk_at dksX0_lose_0 4 rfl rfl)
theorem dX0_lose_6 : decode cX0_lose 6 = .ok (.dup, 1) := dk_89 (dk_at dksX0_lose_0 6 rfl rfl)
theorem dX0_lose_7 : decode cX0_lose 7 = .ok (.iconst 0, 1) := dk_3 (dk_at dksX0_lose_0 7 rfl rfl)
theorem dX0_lose_8 : decode cX0_lose 8 = .ok (.iload_n 1, 1) := dk_27 (dk_at dksX0_lose_0 8 rfl rfl)
theorem dX0_lose_9 : decode cX0_lose 9 = .ok (.iastore, 1) := dk_79 (dk_at dksX0_lose_0 9 rfl rfl)
theorem dX0_lose_10 : decode cX0_lose 10 = .ok (.dup, 1) := dk_89 (dk_at dksX0_lose_0 10 rfl rfl)
theorem dX0_lose_11 : decode cX0_lose 11 = .ok (.iconst 1, 1) := dk_4 (dk_at dksX0_lose_0 11 rfl rfl)
theorem dX0_lose_12 : decode cX0_lose 12 = .ok (.iload_n 2, 1) := dk_28 (dk_at dksX0_lose_0 12 rfl rfl)
theorem dX0_lose_13 : decode cX0_lose 13 = .ok (.iastore, 1) := dk_79 (dk_at dksX0_lose_0 13 rfl rfl)
theorem dX0_lose_14 : decode cX0_lose 14 = .ok (.invokevirtual 121, 3) := dk_182 0 121 (dk_at dksX0_lose_0 14 rfl rfl)
theorem dX0_lose_17 : decode cX0_lose 17 = .ok (.ireturn, 1) := dk_172 (dk_at dksX0_lose_0 17 rfl rfl)
abbrev cX0_resend : ByteArray := prog_1_method_15_code
def yX0_resend : MethodName := ⟨RX0, "resend", "(I)I"⟩
def dkwX0_resend_0 : List UInt8 := [42, 16, 114, 4, 188, 10, 89, 3, 27, 79, 182, 0, 121, 172]
abbrev dktX0_resend_0 : List UInt8 := dkwX0_resend_0 ++ []
theorem dksX0_resend_0 : cX0_resend.data.toList.drop 0 = dktX0_resend_0 := by decide +kernel
theorem dX0_resend_0 : decode cX0_resend 0 = .ok (.aload_n 0, 1) := dk_42 (dk_at dksX0_resend_0 0 rfl rfl)
theorem dX0_resend_1 : decode cX0_resend 1 = .ok (.bipush 114, 2) := dk_16 114 (dk_at dksX0_resend_0 1 rfl rfl)
theorem dX0_resend_3 : decode cX0_resend 3 = .ok (.iconst 1, 1) := dk_4 (dk_at dksX0_resend_0 3 rfl rfl)
theorem dX0_resend_4 : decode cX0_resend 4 = .ok (.newarray .int, 2) := dk_188_10 (dk_at dksX0_resend_0 4 rfl rfl)
theorem dX0_resend_6 : decode cX0_resend 6 = .ok (.dup, 1) := dk_89 (dk_at dksX0_resend_0 6 rfl rfl)
theorem dX0_resend_7 : decode cX0_resend 7 = .ok (.iconst 0, 1) := dk_3 (dk_at dksX0_resend_0 7 rfl rfl)
theorem dX0_resend_8 : decode cX0_resend 8 = .ok (.iload_n 1, 1) := dk_27 (dk_at dksX0_resend_0 8 rfl rfl)
theorem dX0_resend_9 : decode cX0_resend 9 = .ok (.iastore, 1) := dk_79 (dk_at dksX0_resend_0 9 rfl rfl)
theorem dX0_resend_10 : decode cX0_resend 10 = .ok (.invokevirtual 121, 3) := dk_182 0 121 (dk_at dksX0_resend_0 10 rfl rfl)
theorem dX0_resend_13 : decode cX0_resend 13 = .ok (.ireturn, 1) := dk_172 (dk_at dksX0_resend_0 13 rfl rfl)
abbrev cX0_tick : ByteArray := prog_1_method_16_code
def yX0_tick : MethodName := ⟨RX0, "tick", "(I)I"⟩
def dkwX0_tick_0 : List UInt8 := [42, 16, 116, 4, 188, 10, 89, 3, 27, 79, 182, 0, 121, 172]
abbrev dktX0_tick_0 : List UInt8 := dkwX0_tick_0 ++ []
theorem dksX0_tick_0 : cX0_tick.data.toList.drop 0 = dktX0_tick_0 := by decide +kernel
theorem dX0_tick_0 : decode cX0_tick 0 = .ok (.aload_n 0, 1) := dk_42 (dk_at dksX0_tick_0 0 rfl rfl)
theorem dX0_tick_1 : decode cX0_tick 1 = .ok (.bipush 116, 2) := dk_16 116 (dk_at dksX0_tick_0 1 rfl rfl)
theorem dX0_tick_3 : decode cX0_tick 3 = .ok (.iconst 1, 1) := dk_4 (dk_at dksX0_tick_0 3 rfl rfl)
theorem dX0_tick_4 : decode cX0_tick 4 = .ok (.newarray .int, 2) := dk_188_10 (dk_at dksX0_tick_0 4 rfl rfl)
theorem dX0_tick_6 : decode cX0_tick 6 = .ok (.dup, 1) := dk_89 (dk_at dksX0_tick_0 6 rfl rfl)
theorem dX0_tick_7 : decode cX0_tick 7 = .ok (.iconst 0, 1) := dk_3 (dk_at dksX0_tick_0 7 rfl rfl)
theorem dX0_tick_8 : decode cX0_tick 8 = .ok (.iload_n 1, 1) := dk_27 (dk_at dksX0_tick_0 8 rfl rfl)
theorem dX0_tick_9 : decode cX0_tick 9 = .ok (.iastore, 1) := dk_79 (dk_at dksX0_tick_0 9 rfl rfl)
theorem dX0_tick_10 : decode cX0_tick 10 = .ok (.invokevirtual 121, 3) := dk_182 0 121 (dk_at dksX0_tick_0 10 rfl rfl)
theorem dX0_tick_13 : decode cX0_tick 13 = .ok (.ireturn, 1) := dk_172 (dk_at dksX0_tick_0 13 rfl rfl)
abbrev cX0_promote : ByteArray := prog_1_method_17_code
def yX0_promote : MethodName := ⟨RX0, "promote", "(I)I"⟩
def dkwX0_promote_0 : List UInt8 := [42, 16, 103, 4, 188, 10, 89, 3, 27, 79, 182, 0, 121, 172]
abbrev dktX0_promote_0 : List UInt8 := dkwX0_promote_0 ++ []
theorem dksX0_promote_0 : cX0_promote.data.toList.drop 0 = dktX0_promote_0 := by decide +kernel
theorem dX0_promote_0 : decode cX0_promote 0 = .ok (.aload_n 0, 1) := dk_42 (dk_at dksX0_promote_0 0 rfl rfl)
theorem dX0_promote_1 : decode cX0_promote 1 = .ok (.bipush 103, 2) := dk_16 103 (dk_at dksX0_promote_0 1 rfl rfl)
theorem dX0_promote_3 : decode cX0_promote 3 = .ok (.iconst 1, 1) := dk_4 (dk_at dksX0_promote_0 3 rfl rfl)
theorem dX0_promote_4 : decode cX0_promote 4 = .ok (.newarray .int, 2) := dk_188_10 (dk_at dksX0_promote_0 4 rfl rfl)
theorem dX0_promote_6 : decode cX0_promote 6 = .ok (.dup, 1) := dk_89 (dk_at dksX0_promote_0 6 rfl rfl)
theorem dX0_promote_7 : decode cX0_promote 7 = .ok (.iconst 0, 1) := dk_3 (dk_at dksX0_promote_0 7 rfl rfl)
theorem dX0_promote_8 : decode cX0_promote 8 = .ok (.iload_n 1, 1) := dk_27 (dk_at dksX0_promote_0 8 rfl rfl)
theorem dX0_promote_9 : decode cX0_promote 9 = .ok (.iastore, 1) := dk_79 (dk_at dksX0_promote_0 9 rfl rfl)
theorem dX0_promote_10 : decode cX0_promote 10 = .ok (.invokevirtual 121, 3) := dk_182 0 121 (dk_at dksX0_promote_0 10 rfl rfl)
theorem dX0_promote_13 : decode cX0_promote 13 = .ok (.ireturn, 1) := dk_172 (dk_at dksX0_promote_0 13 rfl rfl)
abbrev cX0_rebuild : ByteArray := prog_1_method_18_code
def yX0_rebuild : MethodName := ⟨RX0, "rebuild", "(I)I"⟩
def dkwX0_rebuild_1 : List UInt8 := [44, 27, 182, 0, 125, 182, 0, 113, 172]
abbrev dktX0_rebuild_1 : List UInt8 := dkwX0_rebuild_1 ++ []
def dkwX0_rebuild_0 : List UInt8 := [27, 184, 0, 60, 154, 0, 6, 18, 76, 172, 187, 0, 7, 89, 42, 180, 0, 10, 183, 0, 106, 77, 42, 44]
abbrev dktX0_rebuild_0 : List UInt8 := dkwX0_rebuild_0 ++ dktX0_rebuild_1
theorem dksX0_rebuild_0 : cX0_rebuild.data.toList.drop 0 = dktX0_rebuild_0 := by decide +kernel
theorem dksX0_rebuild_1 : cX0_rebuild.data.toList.drop 24 = dktX0_rebuild_1 := dk_seg dksX0_rebuild_0 24 rfl rfl
theorem dX0_rebuild_0 : decode cX0_rebuild 0 = .ok (.iload_n 1, 1) := dk_27 (dk_at dksX0_rebuild_0 0 rfl rfl)
theorem dX0_rebuild_1 : decode cX0_rebuild 1 = .ok (.invokestatic 60, 3) := dk_184 0 60 (dk_at dksX0_rebuild_0 1 rfl rfl)
theorem dX0_rebuild_4 : decode cX0_rebuild 4 = .ok (.ifCond .ne 6, 3) := dk_154 0 6 (dk_at dksX0_rebuild_0 4 rfl rfl)
theorem dX0_rebuild_7 : decode cX0_rebuild 7 = .ok (.ldc 76, 2) := dk_18 76 (dk_at dksX0_rebuild_0 7 rfl rfl)
theorem dX0_rebuild_9 : decode cX0_rebuild 9 = .ok (.ireturn, 1) := dk_172 (dk_at dksX0_rebuild_0 9 rfl rfl)
theorem dX0_rebuild_10 : decode cX0_rebuild 10 = .ok (.new 7, 3) := dk_187 0 7 (dk_at dksX0_rebuild_0 10 rfl rfl)
theorem dX0_rebuild_13 : decode cX0_rebuild 13 = .ok (.dup, 1) := dk_89 (dk_at dksX0_rebuild_0 13 rfl rfl)
theorem dX0_rebuild_14 : decode cX0_rebuild 14 = .ok (.aload_n 0, 1) := dk_42 (dk_at dksX0_rebuild_0 14 rfl rfl)
theorem dX0_rebuild_15 : decode cX0_rebuild 15 = .ok (.getfield 10, 3) := dk_180 0 10 (dk_at dksX0_rebuild_0 15 rfl rfl)
theorem dX0_rebuild_18 : decode cX0_rebuild 18 = .ok (.invokespecial 106, 3) := dk_183 0 106 (dk_at dksX0_rebuild_0 18 rfl rfl)
theorem dX0_rebuild_21 : decode cX0_rebuild 21 = .ok (.astore_n 2, 1) := dk_77 (dk_at dksX0_rebuild_0 21 rfl rfl)
theorem dX0_rebuild_22 : decode cX0_rebuild 22 = .ok (.aload_n 0, 1) := dk_42 (dk_at dksX0_rebuild_0 22 rfl rfl)
theorem dX0_rebuild_23 : decode cX0_rebuild 23 = .ok (.aload_n 2, 1) := dk_44 (dk_at dksX0_rebuild_0 23 rfl rfl)
theorem dX0_rebuild_24 : decode cX0_rebuild 24 = .ok (.aload_n 2, 1) := dk_44 (dk_at dksX0_rebuild_1 0 rfl rfl)
theorem dX0_rebuild_25 : decode cX0_rebuild 25 = .ok (.iload_n 1, 1) := dk_27 (dk_at dksX0_rebuild_1 1 rfl rfl)
theorem dX0_rebuild_26 : decode cX0_rebuild 26 = .ok (.invokevirtual 125, 3) := dk_182 0 125 (dk_at dksX0_rebuild_1 2 rfl rfl)
theorem dX0_rebuild_29 : decode cX0_rebuild 29 = .ok (.invokevirtual 113, 3) := dk_182 0 113 (dk_at dksX0_rebuild_1 5 rfl rfl)
theorem dX0_rebuild_32 : decode cX0_rebuild 32 = .ok (.ireturn, 1) := dk_172 (dk_at dksX0_rebuild_1 8 rfl rfl)
abbrev cX0_set : ByteArray := prog_1_method_19_code
def yX0_set : MethodName := ⟨RX0, "set", "(II)I"⟩
def dkwX0_set_2 : List UInt8 := [27, 28, 182, 0, 128, 182, 0, 113, 172]
abbrev dktX0_set_2 : List UInt8 := dkwX0_set_2 ++ []
def dkwX0_set_1 : List UInt8 := [184, 0, 44, 154, 0, 6, 18, 76, 172, 187, 0, 7, 89, 42, 180, 0, 10, 183, 0, 106, 78, 42, 45, 45]
abbrev dktX0_set_1 : List UInt8 := dkwX0_set_1 ++ dktX0_set_2
def dkwX0_set_0 : List UInt8 := [27, 133, 9, 10, 184, 0, 44, 153, 0, 23, 28, 133, 27, 154, 0, 7, 10, 167, 0, 4, 9, 20, 0, 72]
abbrev dktX0_set_0 : List UInt8 := dkwX0_set_0 ++ dktX0_set_1
theorem dksX0_set_0 : cX0_set.data.toList.drop 0 = dktX0_set_0 := by decide +kernel
theorem dksX0_set_1 : cX0_set.data.toList.drop 24 = dktX0_set_1 := dk_seg dksX0_set_0 24 rfl rfl
theorem dksX0_set_2 : cX0_set.data.toList.drop 48 = dktX0_set_2 := dk_seg dksX0_set_1 24 rfl rfl
theorem dX0_set_0 : decode cX0_set 0 = .ok (.iload_n 1, 1) := dk_27 (dk_at dksX0_set_0 0 rfl rfl)
theorem dX0_set_1 : decode cX0_set 1 = .ok (.i2l, 1) := dk_133 (dk_at dksX0_set_0 1 rfl rfl)
theorem dX0_set_2 : decode cX0_set 2 = .ok (.lconst 0, 1) := dk_9 (dk_at dksX0_set_0 2 rfl rfl)
theorem dX0_set_3 : decode cX0_set 3 = .ok (.lconst 1, 1) := dk_10 (dk_at dksX0_set_0 3 rfl rfl)
theorem dX0_set_4 : decode cX0_set 4 = .ok (.invokestatic 44, 3) := dk_184 0 44 (dk_at dksX0_set_0 4 rfl rfl)
theorem dX0_set_7 : decode cX0_set 7 = .ok (.ifCond .eq 23, 3) := dk_153 0 23 (dk_at dksX0_set_0 7 rfl rfl)
theorem dX0_set_10 : decode cX0_set 10 = .ok (.iload_n 2, 1) := dk_28 (dk_at dksX0_set_0 10 rfl rfl)
theorem dX0_set_11 : decode cX0_set 11 = .ok (.i2l, 1) := dk_133 (dk_at dksX0_set_0 11 rfl rfl)
theorem dX0_set_12 : decode cX0_set 12 = .ok (.iload_n 1, 1) := dk_27 (dk_at dksX0_set_0 12 rfl rfl)
theorem dX0_set_13 : decode cX0_set 13 = .ok (.ifCond .ne 7, 3) := dk_154 0 7 (dk_at dksX0_set_0 13 rfl rfl)
theorem dX0_set_16 : decode cX0_set 16 = .ok (.lconst 1, 1) := dk_10 (dk_at dksX0_set_0 16 rfl rfl)
theorem dX0_set_17 : decode cX0_set 17 = .ok (.goto 4, 3) := dk_167 0 4 (dk_at dksX0_set_0 17 rfl rfl)
theorem dX0_set_20 : decode cX0_set 20 = .ok (.lconst 0, 1) := dk_9 (dk_at dksX0_set_0 20 rfl rfl)
theorem dX0_set_21 : decode cX0_set 21 = .ok (.ldc2_w 72, 3) := dk_20 0 72 (dk_at dksX0_set_0 21 rfl rfl)
theorem dX0_set_24 : decode cX0_set 24 = .ok (.invokestatic 44, 3) := dk_184 0 44 (dk_at dksX0_set_1 0 rfl rfl)
theorem dX0_set_27 : decode cX0_set 27 = .ok (.ifCond .ne 6, 3) := dk_154 0 6 (dk_at dksX0_set_1 3 rfl rfl)
theorem dX0_set_30 : decode cX0_set 30 = .ok (.ldc 76, 2) := dk_18 76 (dk_at dksX0_set_1 6 rfl rfl)
theorem dX0_set_32 : decode cX0_set 32 = .ok (.ireturn, 1) := dk_172 (dk_at dksX0_set_1 8 rfl rfl)
theorem dX0_set_33 : decode cX0_set 33 = .ok (.new 7, 3) := dk_187 0 7 (dk_at dksX0_set_1 9 rfl rfl)
theorem dX0_set_36 : decode cX0_set 36 = .ok (.dup, 1) := dk_89 (dk_at dksX0_set_1 12 rfl rfl)
theorem dX0_set_37 : decode cX0_set 37 = .ok (.aload_n 0, 1) := dk_42 (dk_at dksX0_set_1 13 rfl rfl)
theorem dX0_set_38 : decode cX0_set 38 = .ok (.getfield 10, 3) := dk_180 0 10 (dk_at dksX0_set_1 14 rfl rfl)
theorem dX0_set_41 : decode cX0_set 41 = .ok (.invokespecial 106, 3) := dk_183 0 106 (dk_at dksX0_set_1 17 rfl rfl)
theorem dX0_set_44 : decode cX0_set 44 = .ok (.astore_n 3, 1) := dk_78 (dk_at dksX0_set_1 20 rfl rfl)
theorem dX0_set_45 : decode cX0_set 45 = .ok (.aload_n 0, 1) := dk_42 (dk_at dksX0_set_1 21 rfl rfl)
theorem dX0_set_46 : decode cX0_set 46 = .ok (.aload_n 3, 1) := dk_45 (dk_at dksX0_set_1 22 rfl rfl)
theorem dX0_set_47 : decode cX0_set 47 = .ok (.aload_n 3, 1) := dk_45 (dk_at dksX0_set_1 23 rfl rfl)
theorem dX0_set_48 : decode cX0_set 48 = .ok (.iload_n 1, 1) := dk_27 (dk_at dksX0_set_2 0 rfl rfl)
theorem dX0_set_49 : decode cX0_set 49 = .ok (.iload_n 2, 1) := dk_28 (dk_at dksX0_set_2 1 rfl rfl)
theorem dX0_set_50 : decode cX0_set 50 = .ok (.invokevirtual 128, 3) := dk_182 0 128 (dk_at dksX0_set_2 2 rfl rfl)
theorem dX0_set_53 : decode cX0_set 53 = .ok (.invokevirtual 113, 3) := dk_182 0 113 (dk_at dksX0_set_2 5 rfl rfl)
theorem dX0_set_56 : decode cX0_set 56 = .ok (.ireturn, 1) := dk_172 (dk_at dksX0_set_2 8 rfl rfl)
abbrev cX0_read : ByteArray := prog_1_method_21_code
def yX0_read : MethodName := ⟨RX0, "read", "(III)I"⟩
def dkwX0_read_2 : List UInt8 := [180, 0, 10, 28, 25, 4, 180, 0, 150, 182, 0, 153, 167, 0, 5, 18, 156, 172]
abbrev dktX0_read_2 : List UInt8 := dkwX0_read_2 ++ []
def dkwX0_read_1 : List UInt8 := [172, 42, 180, 0, 10, 180, 0, 141, 27, 50, 58, 4, 25, 4, 29, 182, 0, 145, 153, 0, 19, 42]
abbrev dktX0_read_1 : List UInt8 := dkwX0_read_1 ++ dktX0_read_2
def dkwX0_read_0 : List UInt8 := [27, 184, 0, 60, 153, 0, 18, 28, 184, 0, 67, 153, 0, 11, 42, 29, 182, 0, 138, 154, 0, 6, 18, 76]
abbrev dktX0_read_0 : List UInt8 := dkwX0_read_0 ++ dktX0_read_1
theorem dksX0_read_0 : cX0_read.data.toList.drop 0 = dktX0_read_0 := by decide +kernel
theorem dksX0_read_1 : cX0_read.data.toList.drop 24 = dktX0_read_1 := dk_seg dksX0_read_0 24 rfl rfl
theorem dksX0_read_2 : cX0_read.data.toList.drop 46 = dktX0_read_2 := dk_seg dksX0_read_1 22 rfl rfl
theorem dX0_read_0 : decode cX0_read 0 = .ok (.iload_n 1, 1) := dk_27 (dk_at dksX0_read_0 0 rfl rfl)
theorem dX0_read_1 : decode cX0_read 1 = .ok (.invokestatic 60, 3) := dk_184 0 60 (dk_at dksX0_read_0 1 rfl rfl)
theorem dX0_read_4 : decode cX0_read 4 = .ok (.ifCond .eq 18, 3) := dk_153 0 18 (dk_at dksX0_read_0 4 rfl rfl)
theorem dX0_read_7 : decode cX0_read 7 = .ok (.iload_n 2, 1) := dk_28 (dk_at dksX0_read_0 7 rfl rfl)
theorem dX0_read_8 : decode cX0_read 8 = .ok (.invokestatic 67, 3) := dk_184 0 67 (dk_at dksX0_read_0 8 rfl rfl)
theorem dX0_read_11 : decode cX0_read 11 = .ok (.ifCond .eq 11, 3) := dk_153 0 11 (dk_at dksX0_read_0 11 rfl rfl)
theorem dX0_read_14 : decode cX0_read 14 = .ok (.aload_n 0, 1) := dk_42 (dk_at dksX0_read_0 14 rfl rfl)
theorem dX0_read_15 : decode cX0_read 15 = .ok (.iload_n 3, 1) := dk_29 (dk_at dksX0_read_0 15 rfl rfl)
theorem dX0_read_16 : decode cX0_read 16 = .ok (.invokevirtual 138, 3) := dk_182 0 138 (dk_at dksX0_read_0 16 rfl rfl)
theorem dX0_read_19 : decode cX0_read 19 = .ok (.ifCond .ne 6, 3) := dk_154 0 6 (dk_at dksX0_read_0 19 rfl rfl)
theorem dX0_read_22 : decode cX0_read 22 = .ok (.ldc 76, 2) := dk_18 76 (dk_at dksX0_read_0 22 rfl rfl)
theorem dX0_read_24 : decode cX0_read 24 = .ok (.ireturn, 1) := dk_172 (dk_at dksX0_read_1 0 rfl rfl)
theorem dX0_read_25 : decode cX0_read 25 = .ok (.aload_n 0, 1) := dk_42 (dk_at dksX0_read_1 1 rfl rfl)
theorem dX0_read_26 : decode cX0_read 26 = .ok (.getfield 10, 3) := dk_180 0 10 (dk_at dksX0_read_1 2 rfl rfl)
theorem dX0_read_29 : decode cX0_read 29 = .ok (.getfield 141, 3) := dk_180 0 141 (dk_at dksX0_read_1 5 rfl rfl)
theorem dX0_read_32 : decode cX0_read 32 = .ok (.iload_n 1, 1) := dk_27 (dk_at dksX0_read_1 8 rfl rfl)
theorem dX0_read_33 : decode cX0_read 33 = .ok (.aaload, 1) := dk_50 (dk_at dksX0_read_1 9 rfl rfl)
theorem dX0_read_34 : decode cX0_read 34 = .ok (.astore 4, 2) := dk_58 4 (dk_at dksX0_read_1 10 rfl rfl)
theorem dX0_read_36 : decode cX0_read 36 = .ok (.aload 4, 2) := dk_25 4 (dk_at dksX0_read_1 12 rfl rfl)
theorem dX0_read_38 : decode cX0_read 38 = .ok (.iload_n 3, 1) := dk_29 (dk_at dksX0_read_1 14 rfl rfl)
theorem dX0_read_39 : decode cX0_read 39 = .ok (.invokevirtual 145, 3) := dk_182 0 145 (dk_at dksX0_read_1 15 rfl rfl)
theorem dX0_read_42 : decode cX0_read 42 = .ok (.ifCond .eq 19, 3) := dk_153 0 19 (dk_at dksX0_read_1 18 rfl rfl)
theorem dX0_read_45 : decode cX0_read 45 = .ok (.aload_n 0, 1) := dk_42 (dk_at dksX0_read_1 21 rfl rfl)
theorem dX0_read_46 : decode cX0_read 46 = .ok (.getfield 10, 3) := dk_180 0 10 (dk_at dksX0_read_2 0 rfl rfl)
theorem dX0_read_49 : decode cX0_read 49 = .ok (.iload_n 2, 1) := dk_28 (dk_at dksX0_read_2 3 rfl rfl)
theorem dX0_read_50 : decode cX0_read 50 = .ok (.aload 4, 2) := dk_25 4 (dk_at dksX0_read_2 4 rfl rfl)
theorem dX0_read_52 : decode cX0_read 52 = .ok (.getfield 150, 3) := dk_180 0 150 (dk_at dksX0_read_2 6 rfl rfl)
theorem dX0_read_55 : decode cX0_read 55 = .ok (.invokevirtual 153, 3) := dk_182 0 153 (dk_at dksX0_read_2 9 rfl rfl)
theorem dX0_read_58 : decode cX0_read 58 = .ok (.goto 5, 3) := dk_167 0 5 (dk_at dksX0_read_2 12 rfl rfl)
theorem dX0_read_61 : decode cX0_read 61 = .ok (.ldc 156, 2) := dk_18 156 (dk_at dksX0_read_2 15 rfl rfl)
theorem dX0_read_63 : decode cX0_read 63 = .ok (.ireturn, 1) := dk_172 (dk_at dksX0_read_2 17 rfl rfl)
abbrev cX0_isFence : ByteArray := prog_1_method_20_code
def yX0_isFence : MethodName := ⟨RX0, "isFence", "(I)Z"⟩
def dkwX0_isFence_0 : List UInt8 := [27, 133, 9, 42, 180, 0, 10, 180, 0, 131, 182, 0, 135, 133, 184, 0, 44, 172]
abbrev dktX0_isFence_0 : List UInt8 := dkwX0_isFence_0 ++ []
theorem dksX0_isFence_0 : cX0_isFence.data.toList.drop 0 = dktX0_isFence_0 := by decide +kernel
theorem dX0_isFence_0 : decode cX0_isFence 0 = .ok (.iload_n 1, 1) := dk_27 (dk_at dksX0_isFence_0 0 rfl rfl)
theorem dX0_isFence_1 : decode cX0_isFence 1 = .ok (.i2l, 1) := dk_133 (dk_at dksX0_isFence_0 1 rfl rfl)
theorem dX0_isFence_2 : decode cX0_isFence 2 = .ok (.lconst 0, 1) := dk_9 (dk_at dksX0_isFence_0 2 rfl rfl)
theorem dX0_isFence_3 : decode cX0_isFence 3 = .ok (.aload_n 0, 1) := dk_42 (dk_at dksX0_isFence_0 3 rfl rfl)
theorem dX0_isFence_4 : decode cX0_isFence 4 = .ok (.getfield 10, 3) := dk_180 0 10 (dk_at dksX0_isFence_0 4 rfl rfl)
theorem dX0_isFence_7 : decode cX0_isFence 7 = .ok (.getfield 131, 3) := dk_180 0 131 (dk_at dksX0_isFence_0 7 rfl rfl)
theorem dX0_isFence_10 : decode cX0_isFence 10 = .ok (.invokevirtual 135, 3) := dk_182 0 135 (dk_at dksX0_isFence_0 10 rfl rfl)
theorem dX0_isFence_13 : decode cX0_isFence 13 = .ok (.i2l, 1) := dk_133 (dk_at dksX0_isFence_0 13 rfl rfl)
theorem dX0_isFence_14 : decode cX0_isFence 14 = .ok (.invokestatic 44, 3) := dk_184 0 44 (dk_at dksX0_isFence_0 14 rfl rfl)
theorem dX0_isFence_17 : decode cX0_isFence 17 = .ok (.ireturn, 1) := dk_172 (dk_at dksX0_isFence_0 17 rfl rfl)
abbrev cX0_primary : ByteArray := prog_1_method_22_code
def yX0_primary : MethodName := ⟨RX0, "primary", "(II)I"⟩
def dkwX0_primary_2 : List UInt8 := [167, 0, 12, 42, 180, 0, 10, 27, 28, 182, 0, 166, 172]
abbrev dktX0_primary_2 : List UInt8 := dkwX0_primary_2 ++ []
def dkwX0_primary_1 : List UInt8 := [18, 76, 172, 27, 155, 0, 21, 42, 180, 0, 10, 180, 0, 162, 27, 46, 2, 160, 0, 8, 18, 156]
abbrev dktX0_primary_1 : List UInt8 := dkwX0_primary_1 ++ dktX0_primary_2
def dkwX0_primary_0 : List UInt8 := [3, 27, 184, 0, 157, 184, 0, 64, 153, 0, 15, 27, 2, 161, 0, 10, 28, 184, 0, 67, 154, 0, 6]
abbrev dktX0_primary_0 : List UInt8 := dkwX0_primary_0 ++ dktX0_primary_1
theorem dksX0_primary_0 : cX0_primary.data.toList.drop 0 = dktX0_primary_0 := by decide +kernel
theorem dksX0_primary_1 : cX0_primary.data.toList.drop 23 = dktX0_primary_1 := dk_seg dksX0_primary_0 23 rfl rfl
theorem dksX0_primary_2 : cX0_primary.data.toList.drop 45 = dktX0_primary_2 := dk_seg dksX0_primary_1 22 rfl rfl
theorem dX0_primary_0 : decode cX0_primary 0 = .ok (.iconst 0, 1) := dk_3 (dk_at dksX0_primary_0 0 rfl rfl)
theorem dX0_primary_1 : decode cX0_primary 1 = .ok (.iload_n 1, 1) := dk_27 (dk_at dksX0_primary_0 1 rfl rfl)
theorem dX0_primary_2 : decode cX0_primary 2 = .ok (.invokestatic 157, 3) := dk_184 0 157 (dk_at dksX0_primary_0 2 rfl rfl)
theorem dX0_primary_5 : decode cX0_primary 5 = .ok (.invokestatic 64, 3) := dk_184 0 64 (dk_at dksX0_primary_0 5 rfl rfl)
theorem dX0_primary_8 : decode cX0_primary 8 = .ok (.ifCond .eq 15, 3) := dk_153 0 15 (dk_at dksX0_primary_0 8 rfl rfl)
theorem dX0_primary_11 : decode cX0_primary 11 = .ok (.iload_n 1, 1) := dk_27 (dk_at dksX0_primary_0 11 rfl rfl)
theorem dX0_primary_12 : decode cX0_primary 12 = .ok (.iconst (-1), 1) := dk_2 (dk_at dksX0_primary_0 12 rfl rfl)
theorem dX0_primary_13 : decode cX0_primary 13 = .ok (.if_icmp .lt 10, 3) := dk_161 0 10 (dk_at dksX0_primary_0 13 rfl rfl)
theorem dX0_primary_16 : decode cX0_primary 16 = .ok (.iload_n 2, 1) := dk_28 (dk_at dksX0_primary_0 16 rfl rfl)
theorem dX0_primary_17 : decode cX0_primary 17 = .ok (.invokestatic 67, 3) := dk_184 0 67 (dk_at dksX0_primary_0 17 rfl rfl)
theorem dX0_primary_20 : decode cX0_primary 20 = .ok (.ifCond .ne 6, 3) := dk_154 0 6 (dk_at dksX0_primary_0 20 rfl rfl)
theorem dX0_primary_23 : decode cX0_primary 23 = .ok (.ldc 76, 2) := dk_18 76 (dk_at dksX0_primary_1 0 rfl rfl)
theorem dX0_primary_25 : decode cX0_primary 25 = .ok (.ireturn, 1) := dk_172 (dk_at dksX0_primary_1 2 rfl rfl)
theorem dX0_primary_26 : decode cX0_primary 26 = .ok (.iload_n 1, 1) := dk_27 (dk_at dksX0_primary_1 3 rfl rfl)
theorem dX0_primary_27 : decode cX0_primary 27 = .ok (.ifCond .lt 21, 3) := dk_155 0 21 (dk_at dksX0_primary_1 4 rfl rfl)
theorem dX0_primary_30 : decode cX0_primary 30 = .ok (.aload_n 0, 1) := dk_42 (dk_at dksX0_primary_1 7 rfl rfl)
theorem dX0_primary_31 : decode cX0_primary 31 = .ok (.getfield 10, 3) := dk_180 0 10 (dk_at dksX0_primary_1 8 rfl rfl)
theorem dX0_primary_34 : decode cX0_primary 34 = .ok (.getfield 162, 3) := dk_180 0 162 (dk_at dksX0_primary_1 11 rfl rfl)
theorem dX0_primary_37 : decode cX0_primary 37 = .ok (.iload_n 1, 1) := dk_27 (dk_at dksX0_primary_1 14 rfl rfl)
theorem dX0_primary_38 : decode cX0_primary 38 = .ok (.iaload, 1) := dk_46 (dk_at dksX0_primary_1 15 rfl rfl)
theorem dX0_primary_39 : decode cX0_primary 39 = .ok (.iconst (-1), 1) := dk_2 (dk_at dksX0_primary_1 16 rfl rfl)
theorem dX0_primary_40 : decode cX0_primary 40 = .ok (.if_icmp .ne 8, 3) := dk_160 0 8 (dk_at dksX0_primary_1 17 rfl rfl)
theorem dX0_primary_43 : decode cX0_primary 43 = .ok (.ldc 156, 2) := dk_18 156 (dk_at dksX0_primary_1 20 rfl rfl)
theorem dX0_primary_45 : decode cX0_primary 45 = .ok (.goto 12, 3) := dk_167 0 12 (dk_at dksX0_primary_2 0 rfl rfl)
theorem dX0_primary_48 : decode cX0_primary 48 = .ok (.aload_n 0, 1) := dk_42 (dk_at dksX0_primary_2 3 rfl rfl)
theorem dX0_primary_49 : decode cX0_primary 49 = .ok (.getfield 10, 3) := dk_180 0 10 (dk_at dksX0_primary_2 4 rfl rfl)
theorem dX0_primary_52 : decode cX0_primary 52 = .ok (.iload_n 1, 1) := dk_27 (dk_at dksX0_primary_2 7 rfl rfl)
theorem dX0_primary_53 : decode cX0_primary 53 = .ok (.iload_n 2, 1) := dk_28 (dk_at dksX0_primary_2 8 rfl rfl)
theorem dX0_primary_54 : decode cX0_primary 54 = .ok (.invokevirtual 166, 3) := dk_182 0 166 (dk_at dksX0_primary_2 9 rfl rfl)
theorem dX0_primary_57 : decode cX0_primary 57 = .ok (.ireturn, 1) := dk_172 (dk_at dksX0_primary_2 12 rfl rfl)
abbrev cX0_serves : ByteArray := prog_1_method_23_code
def yX0_serves : MethodName := ⟨RX0, "serves", "(I)I"⟩
def dkwX0_serves_4 : List UInt8 := [172]
abbrev dktX0_serves_4 : List UInt8 := dkwX0_serves_4 ++ []
def dkwX0_serves_3 : List UInt8 := [182, 0, 145, 153, 0, 12, 21, 4, 153, 0, 7, 29, 167, 0, 4, 28, 61, 132, 3, 1, 167, 255, 183, 28]
abbrev dktX0_serves_3 : List UInt8 := dkwX0_serves_3 ++ dktX0_serves_4
def dkwX0_serves_2 : List UInt8 := [180, 0, 150, 164, 0, 7, 4, 167, 0, 4, 3, 54, 4, 42, 180, 0, 10, 180, 0, 141, 29, 50, 27]
abbrev dktX0_serves_2 : List UInt8 := dkwX0_serves_2 ++ dktX0_serves_3
def dkwX0_serves_1 : List UInt8 := [155, 0, 30, 42, 180, 0, 10, 180, 0, 141, 29, 50, 180, 0, 150, 42, 180, 0, 10, 180, 0, 141, 28, 50]
abbrev dktX0_serves_1 : List UInt8 := dkwX0_serves_1 ++ dktX0_serves_2
def dkwX0_serves_0 : List UInt8 := [42, 27, 182, 0, 138, 154, 0, 6, 18, 76, 172, 18, 169, 61, 3, 62, 29, 5, 162, 0, 74, 28]
abbrev dktX0_serves_0 : List UInt8 := dkwX0_serves_0 ++ dktX0_serves_1
theorem dksX0_serves_0 : cX0_serves.data.toList.drop 0 = dktX0_serves_0 := by decide +kernel
theorem dksX0_serves_1 : cX0_serves.data.toList.drop 22 = dktX0_serves_1 := dk_seg dksX0_serves_0 22 rfl rfl
theorem dksX0_serves_2 : cX0_serves.data.toList.drop 46 = dktX0_serves_2 := dk_seg dksX0_serves_1 24 rfl rfl
theorem dksX0_serves_3 : cX0_serves.data.toList.drop 69 = dktX0_serves_3 := dk_seg dksX0_serves_2 23 rfl rfl
theorem dksX0_serves_4 : cX0_serves.data.toList.drop 93 = dktX0_serves_4 := dk_seg dksX0_serves_3 24 rfl rfl
theorem dX0_serves_0 : decode cX0_serves 0 = .ok (.aload_n 0, 1) := dk_42 (dk_at dksX0_serves_0 0 rfl rfl)
theorem dX0_serves_1 : decode cX0_serves 1 = .ok (.iload_n 1, 1) := dk_27 (dk_at dksX0_serves_0 1 rfl rfl)
theorem dX0_serves_2 : decode cX0_serves 2 = .ok (.invokevirtual 138, 3) := dk_182 0 138 (dk_at dksX0_serves_0 2 rfl rfl)
theorem dX0_serves_5 : decode cX0_serves 5 = .ok (.ifCond .ne 6, 3) := dk_154 0 6 (dk_at dksX0_serves_0 5 rfl rfl)
theorem dX0_serves_8 : decode cX0_serves 8 = .ok (.ldc 76, 2) := dk_18 76 (dk_at dksX0_serves_0 8 rfl rfl)
theorem dX0_serves_10 : decode cX0_serves 10 = .ok (.ireturn, 1) := dk_172 (dk_at dksX0_serves_0 10 rfl rfl)
theorem dX0_serves_11 : decode cX0_serves 11 = .ok (.ldc 169, 2) := dk_18 169 (dk_at dksX0_serves_0 11 rfl rfl)
theorem dX0_serves_13 : decode cX0_serves 13 = .ok (.istore_n 2, 1) := dk_61 (dk_at dksX0_serves_0 13 rfl rfl)
theorem dX0_serves_14 : decode cX0_serves 14 = .ok (.iconst 0, 1) := dk_3 (dk_at dksX0_serves_0 14 rfl rfl)
theorem dX0_serves_15 : decode cX0_serves 15 = .ok (.istore_n 3, 1) := dk_62 (dk_at dksX0_serves_0 15 rfl rfl)
theorem dX0_serves_16 : decode cX0_serves 16 = .ok (.iload_n 3, 1) := dk_29 (dk_at dksX0_serves_0 16 rfl rfl)
theorem dX0_serves_17 : decode cX0_serves 17 = .ok (.iconst 2, 1) := dk_5 (dk_at dksX0_serves_0 17 rfl rfl)
theorem dX0_serves_18 : decode cX0_serves 18 = .ok (.if_icmp .ge 74, 3) := dk_162 0 74 (dk_at dksX0_serves_0 18 rfl rfl)
theorem dX0_serves_21 : decode cX0_serves 21 = .ok (.iload_n 2, 1) := dk_28 (dk_at dksX0_serves_0 21 rfl rfl)
theorem dX0_serves_22 : decode cX0_serves 22 = .ok (.ifCond .lt 30, 3) := dk_155 0 30 (dk_at dksX0_serves_1 0 rfl rfl)
theorem dX0_serves_25 : decode cX0_serves 25 = .ok (.aload_n 0, 1) := dk_42 (dk_at dksX0_serves_1 3 rfl rfl)
theorem dX0_serves_26 : decode cX0_serves 26 = .ok (.getfield 10, 3) := dk_180 0 10 (dk_at dksX0_serves_1 4 rfl rfl)
theorem dX0_serves_29 : decode cX0_serves 29 = .ok (.getfield 141, 3) := dk_180 0 141 (dk_at dksX0_serves_1 7 rfl rfl)
theorem dX0_serves_32 : decode cX0_serves 32 = .ok (.iload_n 3, 1) := dk_29 (dk_at dksX0_serves_1 10 rfl rfl)
theorem dX0_serves_33 : decode cX0_serves 33 = .ok (.aaload, 1) := dk_50 (dk_at dksX0_serves_1 11 rfl rfl)
theorem dX0_serves_34 : decode cX0_serves 34 = .ok (.getfield 150, 3) := dk_180 0 150 (dk_at dksX0_serves_1 12 rfl rfl)
theorem dX0_serves_37 : decode cX0_serves 37 = .ok (.aload_n 0, 1) := dk_42 (dk_at dksX0_serves_1 15 rfl rfl)
theorem dX0_serves_38 : decode cX0_serves 38 = .ok (.getfield 10, 3) := dk_180 0 10 (dk_at dksX0_serves_1 16 rfl rfl)
theorem dX0_serves_41 : decode cX0_serves 41 = .ok (.getfield 141, 3) := dk_180 0 141 (dk_at dksX0_serves_1 19 rfl rfl)
theorem dX0_serves_44 : decode cX0_serves 44 = .ok (.iload_n 2, 1) := dk_28 (dk_at dksX0_serves_1 22 rfl rfl)
theorem dX0_serves_45 : decode cX0_serves 45 = .ok (.aaload, 1) := dk_50 (dk_at dksX0_serves_1 23 rfl rfl)
theorem dX0_serves_46 : decode cX0_serves 46 = .ok (.getfield 150, 3) := dk_180 0 150 (dk_at dksX0_serves_2 0 rfl rfl)
theorem dX0_serves_49 : decode cX0_serves 49 = .ok (.if_icmp .le 7, 3) := dk_164 0 7 (dk_at dksX0_serves_2 3 rfl rfl)
theorem dX0_serves_52 : decode cX0_serves 52 = .ok (.iconst 1, 1) := dk_4 (dk_at dksX0_serves_2 6 rfl rfl)
theorem dX0_serves_53 : decode cX0_serves 53 = .ok (.goto 4, 3) := dk_167 0 4 (dk_at dksX0_serves_2 7 rfl rfl)
theorem dX0_serves_56 : decode cX0_serves 56 = .ok (.iconst 0, 1) := dk_3 (dk_at dksX0_serves_2 10 rfl rfl)
theorem dX0_serves_57 : decode cX0_serves 57 = .ok (.istore 4, 2) := dk_54 4 (dk_at dksX0_serves_2 11 rfl rfl)
theorem dX0_serves_59 : decode cX0_serves 59 = .ok (.aload_n 0, 1) := dk_42 (dk_at dksX0_serves_2 13 rfl rfl)
theorem dX0_serves_60 : decode cX0_serves 60 = .ok (.getfield 10, 3) := dk_180 0 10 (dk_at dksX0_serves_2 14 rfl rfl)
theorem dX0_serves_63 : decode cX0_serves 63 = .ok (.getfield 141, 3) := dk_180 0 141 (dk_at dksX0_serves_2 17 rfl rfl)
theorem dX0_serves_66 : decode cX0_serves 66 = .ok (.iload_n 3, 1) := dk_29 (dk_at dksX0_serves_2 20 rfl rfl)
theorem dX0_serves_67 : decode cX0_serves 67 = .ok (.aaload, 1) := dk_50 (dk_at dksX0_serves_2 21 rfl rfl)
theorem dX0_serves_68 : decode cX0_serves 68 = .ok (.iload_n 1, 1) := dk_27 (dk_at dksX0_serves_2 22 rfl rfl)
theorem dX0_serves_69 : decode cX0_serves 69 = .ok (.invokevirtual 145, 3) := dk_182 0 145 (dk_at dksX0_serves_3 0 rfl rfl)
theorem dX0_serves_72 : decode cX0_serves 72 = .ok (.ifCond .eq 12, 3) := dk_153 0 12 (dk_at dksX0_serves_3 3 rfl rfl)
theorem dX0_serves_75 : decode cX0_serves 75 = .ok (.iload 4, 2) := dk_21 4 (dk_at dksX0_serves_3 6 rfl rfl)
theorem dX0_serves_77 : decode cX0_serves 77 = .ok (.ifCond .eq 7, 3) := dk_153 0 7 (dk_at dksX0_serves_3 8 rfl rfl)
theorem dX0_serves_80 : decode cX0_serves 80 = .ok (.iload_n 3, 1) := dk_29 (dk_at dksX0_serves_3 11 rfl rfl)
theorem dX0_serves_81 : decode cX0_serves 81 = .ok (.goto 4, 3) := dk_167 0 4 (dk_at dksX0_serves_3 12 rfl rfl)
theorem dX0_serves_84 : decode cX0_serves 84 = .ok (.iload_n 2, 1) := dk_28 (dk_at dksX0_serves_3 15 rfl rfl)
theorem dX0_serves_85 : decode cX0_serves 85 = .ok (.istore_n 2, 1) := dk_61 (dk_at dksX0_serves_3 16 rfl rfl)
theorem dX0_serves_86 : decode cX0_serves 86 = .ok (.iinc 3 1, 3) := dk_132 3 1 (dk_at dksX0_serves_3 17 rfl rfl)
theorem dX0_serves_89 : decode cX0_serves 89 = .ok (.goto (-73), 3) := dk_167 255 183 (dk_at dksX0_serves_3 20 rfl rfl)
theorem dX0_serves_92 : decode cX0_serves 92 = .ok (.iload_n 2, 1) := dk_28 (dk_at dksX0_serves_3 23 rfl rfl)
theorem dX0_serves_93 : decode cX0_serves 93 = .ok (.ireturn, 1) := dk_172 (dk_at dksX0_serves_4 0 rfl rfl)
abbrev cX0_fence : ByteArray := prog_1_method_24_code
def yX0_fence : MethodName := ⟨RX0, "fence", "(I)I"⟩
def dkwX0_fence_1 : List UInt8 := [182, 0, 135, 182, 0, 170, 61, 28, 154, 0, 8, 18, 169, 167, 0, 4, 28, 172]
abbrev dktX0_fence_1 : List UInt8 := dkwX0_fence_1 ++ []
def dkwX0_fence_0 : List UInt8 := [27, 184, 0, 67, 154, 0, 6, 18, 76, 172, 42, 180, 0, 10, 27, 42, 180, 0, 10, 180, 0, 131]
abbrev dktX0_fence_0 : List UInt8 := dkwX0_fence_0 ++ dktX0_fence_1
theorem dksX0_fence_0 : cX0_fence.data.toList.drop 0 = dktX0_fence_0 := by decide +kernel
theorem dksX0_fence_1 : cX0_fence.data.toList.drop 22 = dktX0_fence_1 := dk_seg dksX0_fence_0 22 rfl rfl
theorem dX0_fence_0 : decode cX0_fence 0 = .ok (.iload_n 1, 1) := dk_27 (dk_at dksX0_fence_0 0 rfl rfl)
theorem dX0_fence_1 : decode cX0_fence 1 = .ok (.invokestatic 67, 3) := dk_184 0 67 (dk_at dksX0_fence_0 1 rfl rfl)
theorem dX0_fence_4 : decode cX0_fence 4 = .ok (.ifCond .ne 6, 3) := dk_154 0 6 (dk_at dksX0_fence_0 4 rfl rfl)
theorem dX0_fence_7 : decode cX0_fence 7 = .ok (.ldc 76, 2) := dk_18 76 (dk_at dksX0_fence_0 7 rfl rfl)
theorem dX0_fence_9 : decode cX0_fence 9 = .ok (.ireturn, 1) := dk_172 (dk_at dksX0_fence_0 9 rfl rfl)
theorem dX0_fence_10 : decode cX0_fence 10 = .ok (.aload_n 0, 1) := dk_42 (dk_at dksX0_fence_0 10 rfl rfl)
theorem dX0_fence_11 : decode cX0_fence 11 = .ok (.getfield 10, 3) := dk_180 0 10 (dk_at dksX0_fence_0 11 rfl rfl)
theorem dX0_fence_14 : decode cX0_fence 14 = .ok (.iload_n 1, 1) := dk_27 (dk_at dksX0_fence_0 14 rfl rfl)
theorem dX0_fence_15 : decode cX0_fence 15 = .ok (.aload_n 0, 1) := dk_42 (dk_at dksX0_fence_0 15 rfl rfl)
theorem dX0_fence_16 : decode cX0_fence 16 = .ok (.getfield 10, 3) := dk_180 0 10 (dk_at dksX0_fence_0 16 rfl rfl)
theorem dX0_fence_19 : decode cX0_fence 19 = .ok (.getfield 131, 3) := dk_180 0 131 (dk_at dksX0_fence_0 19 rfl rfl)
theorem dX0_fence_22 : decode cX0_fence 22 = .ok (.invokevirtual 135, 3) := dk_182 0 135 (dk_at dksX0_fence_1 0 rfl rfl)
theorem dX0_fence_25 : decode cX0_fence 25 = .ok (.invokevirtual 170, 3) := dk_182 0 170 (dk_at dksX0_fence_1 3 rfl rfl)
theorem dX0_fence_28 : decode cX0_fence 28 = .ok (.istore_n 2, 1) := dk_61 (dk_at dksX0_fence_1 6 rfl rfl)
theorem dX0_fence_29 : decode cX0_fence 29 = .ok (.iload_n 2, 1) := dk_28 (dk_at dksX0_fence_1 7 rfl rfl)
theorem dX0_fence_30 : decode cX0_fence 30 = .ok (.ifCond .ne 8, 3) := dk_154 0 8 (dk_at dksX0_fence_1 8 rfl rfl)
theorem dX0_fence_33 : decode cX0_fence 33 = .ok (.ldc 169, 2) := dk_18 169 (dk_at dksX0_fence_1 11 rfl rfl)
theorem dX0_fence_35 : decode cX0_fence 35 = .ok (.goto 4, 3) := dk_167 0 4 (dk_at dksX0_fence_1 13 rfl rfl)
theorem dX0_fence_38 : decode cX0_fence 38 = .ok (.iload_n 2, 1) := dk_28 (dk_at dksX0_fence_1 16 rfl rfl)
theorem dX0_fence_39 : decode cX0_fence 39 = .ok (.ireturn, 1) := dk_172 (dk_at dksX0_fence_1 17 rfl rfl)
abbrev cX0_recordOf : ByteArray := prog_1_method_26_code
def yX0_recordOf : MethodName := ⟨RX0, "recordOf", "(II)I"⟩
def dkwX0_recordOf_2 : List UInt8 := [27, 182, 0, 175, 192, 0, 179, 28, 182, 0, 181, 184, 0, 184, 172]
abbrev dktX0_recordOf_2 : List UInt8 := dkwX0_recordOf_2 ++ []
def dkwX0_recordOf_1 : List UInt8 := [180, 0, 10, 180, 0, 131, 182, 0, 135, 164, 0, 8, 18, 169, 167, 0, 24, 42, 180, 0, 10, 180, 0, 131]
abbrev dktX0_recordOf_1 : List UInt8 := dkwX0_recordOf_1 ++ dktX0_recordOf_2
def dkwX0_recordOf_0 : List UInt8 := [27, 4, 161, 0, 15, 28, 133, 9, 20, 0, 173, 184, 0, 44, 154, 0, 6, 18, 76, 172, 27, 42]
abbrev dktX0_recordOf_0 : List UInt8 := dkwX0_recordOf_0 ++ dktX0_recordOf_1
theorem dksX0_recordOf_0 : cX0_recordOf.data.toList.drop 0 = dktX0_recordOf_0 := by decide +kernel
theorem dksX0_recordOf_1 : cX0_recordOf.data.toList.drop 22 = dktX0_recordOf_1 := dk_seg dksX0_recordOf_0 22 rfl rfl
theorem dksX0_recordOf_2 : cX0_recordOf.data.toList.drop 46 = dktX0_recordOf_2 := dk_seg dksX0_recordOf_1 24 rfl rfl
theorem dX0_recordOf_0 : decode cX0_recordOf 0 = .ok (.iload_n 1, 1) := dk_27 (dk_at dksX0_recordOf_0 0 rfl rfl)
theorem dX0_recordOf_1 : decode cX0_recordOf 1 = .ok (.iconst 1, 1) := dk_4 (dk_at dksX0_recordOf_0 1 rfl rfl)
theorem dX0_recordOf_2 : decode cX0_recordOf 2 = .ok (.if_icmp .lt 15, 3) := dk_161 0 15 (dk_at dksX0_recordOf_0 2 rfl rfl)
theorem dX0_recordOf_5 : decode cX0_recordOf 5 = .ok (.iload_n 2, 1) := dk_28 (dk_at dksX0_recordOf_0 5 rfl rfl)
theorem dX0_recordOf_6 : decode cX0_recordOf 6 = .ok (.i2l, 1) := dk_133 (dk_at dksX0_recordOf_0 6 rfl rfl)
theorem dX0_recordOf_7 : decode cX0_recordOf 7 = .ok (.lconst 0, 1) := dk_9 (dk_at dksX0_recordOf_0 7 rfl rfl)
theorem dX0_recordOf_8 : decode cX0_recordOf 8 = .ok (.ldc2_w 173, 3) := dk_20 0 173 (dk_at dksX0_recordOf_0 8 rfl rfl)
theorem dX0_recordOf_11 : decode cX0_recordOf 11 = .ok (.invokestatic 44, 3) := dk_184 0 44 (dk_at dksX0_recordOf_0 11 rfl rfl)
theorem dX0_recordOf_14 : decode cX0_recordOf 14 = .ok (.ifCond .ne 6, 3) := dk_154 0 6 (dk_at dksX0_recordOf_0 14 rfl rfl)
theorem dX0_recordOf_17 : decode cX0_recordOf 17 = .ok (.ldc 76, 2) := dk_18 76 (dk_at dksX0_recordOf_0 17 rfl rfl)
theorem dX0_recordOf_19 : decode cX0_recordOf 19 = .ok (.ireturn, 1) := dk_172 (dk_at dksX0_recordOf_0 19 rfl rfl)
theorem dX0_recordOf_20 : decode cX0_recordOf 20 = .ok (.iload_n 1, 1) := dk_27 (dk_at dksX0_recordOf_0 20 rfl rfl)
theorem dX0_recordOf_21 : decode cX0_recordOf 21 = .ok (.aload_n 0, 1) := dk_42 (dk_at dksX0_recordOf_0 21 rfl rfl)
theorem dX0_recordOf_22 : decode cX0_recordOf 22 = .ok (.getfield 10, 3) := dk_180 0 10 (dk_at dksX0_recordOf_1 0 rfl rfl)
theorem dX0_recordOf_25 : decode cX0_recordOf 25 = .ok (.getfield 131, 3) := dk_180 0 131 (dk_at dksX0_recordOf_1 3 rfl rfl)
theorem dX0_recordOf_28 : decode cX0_recordOf 28 = .ok (.invokevirtual 135, 3) := dk_182 0 135 (dk_at dksX0_recordOf_1 6 rfl rfl)
theorem dX0_recordOf_31 : decode cX0_recordOf 31 = .ok (.if_icmp .le 8, 3) := dk_164 0 8 (dk_at dksX0_recordOf_1 9 rfl rfl)
theorem dX0_recordOf_34 : decode cX0_recordOf 34 = .ok (.ldc 169, 2) := dk_18 169 (dk_at dksX0_recordOf_1 12 rfl rfl)
theorem dX0_recordOf_36 : decode cX0_recordOf 36 = .ok (.goto 24, 3) := dk_167 0 24 (dk_at dksX0_recordOf_1 14 rfl rfl)
theorem dX0_recordOf_39 : decode cX0_recordOf 39 = .ok (.aload_n 0, 1) := dk_42 (dk_at dksX0_recordOf_1 17 rfl rfl)
theorem dX0_recordOf_40 : decode cX0_recordOf 40 = .ok (.getfield 10, 3) := dk_180 0 10 (dk_at dksX0_recordOf_1 18 rfl rfl)
theorem dX0_recordOf_43 : decode cX0_recordOf 43 = .ok (.getfield 131, 3) := dk_180 0 131 (dk_at dksX0_recordOf_1 21 rfl rfl)
theorem dX0_recordOf_46 : decode cX0_recordOf 46 = .ok (.iload_n 1, 1) := dk_27 (dk_at dksX0_recordOf_2 0 rfl rfl)
theorem dX0_recordOf_47 : decode cX0_recordOf 47 = .ok (.invokevirtual 175, 3) := dk_182 0 175 (dk_at dksX0_recordOf_2 1 rfl rfl)
theorem dX0_recordOf_50 : decode cX0_recordOf 50 = .ok (.checkcast 179, 3) := dk_192 0 179 (dk_at dksX0_recordOf_2 4 rfl rfl)
theorem dX0_recordOf_53 : decode cX0_recordOf 53 = .ok (.iload_n 2, 1) := dk_28 (dk_at dksX0_recordOf_2 7 rfl rfl)
theorem dX0_recordOf_54 : decode cX0_recordOf 54 = .ok (.invokevirtual 181, 3) := dk_182 0 181 (dk_at dksX0_recordOf_2 8 rfl rfl)
theorem dX0_recordOf_57 : decode cX0_recordOf 57 = .ok (.invokestatic 184, 3) := dk_184 0 184 (dk_at dksX0_recordOf_2 11 rfl rfl)
theorem dX0_recordOf_60 : decode cX0_recordOf 60 = .ok (.ireturn, 1) := dk_172 (dk_at dksX0_recordOf_2 14 rfl rfl)
abbrev cX0_orNotFound : ByteArray := prog_1_method_25_code
def yX0_orNotFound : MethodName := ⟨RX0, "orNotFound", "(I)I"⟩
def dkwX0_orNotFound_0 : List UInt8 := [26, 2, 160, 0, 8, 18, 169, 167, 0, 4, 26, 172]
abbrev dktX0_orNotFound_0 : List UInt8 := dkwX0_orNotFound_0 ++ []
theorem dksX0_orNotFound_0 : cX0_orNotFound.data.toList.drop 0 = dktX0_orNotFound_0 := by decide +kernel
theorem dX0_orNotFound_0 : decode cX0_orNotFound 0 = .ok (.iload_n 0, 1) := dk_26 (dk_at dksX0_orNotFound_0 0 rfl rfl)
theorem dX0_orNotFound_1 : decode cX0_orNotFound 1 = .ok (.iconst (-1), 1) := dk_2 (dk_at dksX0_orNotFound_0 1 rfl rfl)
theorem dX0_orNotFound_2 : decode cX0_orNotFound 2 = .ok (.if_icmp .ne 8, 3) := dk_160 0 8 (dk_at dksX0_orNotFound_0 2 rfl rfl)
theorem dX0_orNotFound_5 : decode cX0_orNotFound 5 = .ok (.ldc 169, 2) := dk_18 169 (dk_at dksX0_orNotFound_0 5 rfl rfl)
theorem dX0_orNotFound_7 : decode cX0_orNotFound 7 = .ok (.goto 4, 3) := dk_167 0 4 (dk_at dksX0_orNotFound_0 7 rfl rfl)
theorem dX0_orNotFound_10 : decode cX0_orNotFound 10 = .ok (.iload_n 0, 1) := dk_26 (dk_at dksX0_orNotFound_0 10 rfl rfl)
theorem dX0_orNotFound_11 : decode cX0_orNotFound 11 = .ok (.ireturn, 1) := dk_172 (dk_at dksX0_orNotFound_0 11 rfl rfl)
abbrev cX0_standbyOf : ByteArray := prog_1_method_28_code
def yX0_standbyOf : MethodName := ⟨RX0, "standbyOf", "(II)I"⟩
def dkwX0_standbyOf_5 : List UInt8 := [182, 0, 218, 172]
abbrev dktX0_standbyOf_5 : List UInt8 := dkwX0_standbyOf_5 ++ []
def dkwX0_standbyOf_4 : List UInt8 := [182, 0, 211, 184, 0, 184, 172, 45, 180, 0, 214, 153, 0, 7, 4, 167, 0, 4, 3, 172, 42, 45, 28]
abbrev dktX0_standbyOf_4 : List UInt8 := dkwX0_standbyOf_4 ++ dktX0_standbyOf_5
def dkwX0_standbyOf_3 : List UInt8 := [45, 180, 0, 199, 172, 45, 180, 0, 150, 172, 45, 180, 0, 202, 182, 0, 206, 172, 45, 180, 0, 202, 3]
abbrev dktX0_standbyOf_3 : List UInt8 := dkwX0_standbyOf_3 ++ dktX0_standbyOf_4
def dkwX0_standbyOf_2 : List UInt8 := [170, 0, 0, 0, 0, 0, 78, 0, 0, 0, 0, 0, 0, 0, 4, 0, 0, 0, 35, 0, 0, 0, 40, 0, 0, 0, 45, 0, 0, 0, 53, 0, 0, 0, 65]
abbrev dktX0_standbyOf_2 : List UInt8 := dkwX0_standbyOf_2 ++ dktX0_standbyOf_3
def dkwX0_standbyOf_1 : List UInt8 := [180, 0, 10, 180, 0, 141, 27, 50, 78, 28]
abbrev dktX0_standbyOf_1 : List UInt8 := dkwX0_standbyOf_1 ++ dktX0_standbyOf_2
def dkwX0_standbyOf_0 : List UInt8 := [27, 184, 0, 60, 153, 0, 15, 28, 133, 9, 20, 0, 197, 184, 0, 44, 154, 0, 6, 18, 76, 172, 42]
abbrev dktX0_standbyOf_0 : List UInt8 := dkwX0_standbyOf_0 ++ dktX0_standbyOf_1
theorem dksX0_standbyOf_0 : cX0_standbyOf.data.toList.drop 0 = dktX0_standbyOf_0 := by decide +kernel
theorem dksX0_standbyOf_1 : cX0_standbyOf.data.toList.drop 23 = dktX0_standbyOf_1 := dk_seg dksX0_standbyOf_0 23 rfl rfl
theorem dksX0_standbyOf_2 : cX0_standbyOf.data.toList.drop 33 = dktX0_standbyOf_2 := dk_seg dksX0_standbyOf_1 10 rfl rfl
theorem dksX0_standbyOf_3 : cX0_standbyOf.data.toList.drop 68 = dktX0_standbyOf_3 := dk_seg dksX0_standbyOf_2 35 rfl rfl
theorem dksX0_standbyOf_4 : cX0_standbyOf.data.toList.drop 91 = dktX0_standbyOf_4 := dk_seg dksX0_standbyOf_3 23 rfl rfl
theorem dksX0_standbyOf_5 : cX0_standbyOf.data.toList.drop 114 = dktX0_standbyOf_5 := dk_seg dksX0_standbyOf_4 23 rfl rfl
theorem dX0_standbyOf_0 : decode cX0_standbyOf 0 = .ok (.iload_n 1, 1) := dk_27 (dk_at dksX0_standbyOf_0 0 rfl rfl)
theorem dX0_standbyOf_1 : decode cX0_standbyOf 1 = .ok (.invokestatic 60, 3) := dk_184 0 60 (dk_at dksX0_standbyOf_0 1 rfl rfl)
theorem dX0_standbyOf_4 : decode cX0_standbyOf 4 = .ok (.ifCond .eq 15, 3) := dk_153 0 15 (dk_at dksX0_standbyOf_0 4 rfl rfl)
theorem dX0_standbyOf_7 : decode cX0_standbyOf 7 = .ok (.iload_n 2, 1) := dk_28 (dk_at dksX0_standbyOf_0 7 rfl rfl)
theorem dX0_standbyOf_8 : decode cX0_standbyOf 8 = .ok (.i2l, 1) := dk_133 (dk_at dksX0_standbyOf_0 8 rfl rfl)
theorem dX0_standbyOf_9 : decode cX0_standbyOf 9 = .ok (.lconst 0, 1) := dk_9 (dk_at dksX0_standbyOf_0 9 rfl rfl)
theorem dX0_standbyOf_10 : decode cX0_standbyOf 10 = .ok (.ldc2_w 197, 3) := dk_20 0 197 (dk_at dksX0_standbyOf_0 10 rfl rfl)
theorem dX0_standbyOf_13 : decode cX0_standbyOf 13 = .ok (.invokestatic 44, 3) := dk_184 0 44 (dk_at dksX0_standbyOf_0 13 rfl rfl)
theorem dX0_standbyOf_16 : decode cX0_standbyOf 16 = .ok (.ifCond .ne 6, 3) := dk_154 0 6 (dk_at dksX0_standbyOf_0 16 rfl rfl)
theorem dX0_standbyOf_19 : decode cX0_standbyOf 19 = .ok (.ldc 76, 2) := dk_18 76 (dk_at dksX0_standbyOf_0 19 rfl rfl)
theorem dX0_standbyOf_21 : decode cX0_standbyOf 21 = .ok (.ireturn, 1) := dk_172 (dk_at dksX0_standbyOf_0 21 rfl rfl)
theorem dX0_standbyOf_22 : decode cX0_standbyOf 22 = .ok (.aload_n 0, 1) := dk_42 (dk_at dksX0_standbyOf_0 22 rfl rfl)
theorem dX0_standbyOf_23 : decode cX0_standbyOf 23 = .ok (.getfield 10, 3) := dk_180 0 10 (dk_at dksX0_standbyOf_1 0 rfl rfl)
theorem dX0_standbyOf_26 : decode cX0_standbyOf 26 = .ok (.getfield 141, 3) := dk_180 0 141 (dk_at dksX0_standbyOf_1 3 rfl rfl)
theorem dX0_standbyOf_29 : decode cX0_standbyOf 29 = .ok (.iload_n 1, 1) := dk_27 (dk_at dksX0_standbyOf_1 6 rfl rfl)
theorem dX0_standbyOf_30 : decode cX0_standbyOf 30 = .ok (.aaload, 1) := dk_50 (dk_at dksX0_standbyOf_1 7 rfl rfl)
theorem dX0_standbyOf_31 : decode cX0_standbyOf 31 = .ok (.astore_n 3, 1) := dk_78 (dk_at dksX0_standbyOf_1 8 rfl rfl)
theorem dX0_standbyOf_32 : decode cX0_standbyOf 32 = .ok (.iload_n 2, 1) := dk_28 (dk_at dksX0_standbyOf_1 9 rfl rfl)
theorem dX0_standbyOf_33 : decode cX0_standbyOf 33 = .ok (.tableswitch 78 0 4 #[35, 40, 45, 53, 65], 35) := by decide +kernel
theorem dX0_standbyOf_68 : decode cX0_standbyOf 68 = .ok (.aload_n 3, 1) := dk_45 (dk_at dksX0_standbyOf_3 0 rfl rfl)
theorem dX0_standbyOf_69 : decode cX0_standbyOf 69 = .ok (.getfield 199, 3) := dk_180 0 199 (dk_at dksX0_standbyOf_3 1 rfl rfl)
theorem dX0_standbyOf_72 : decode cX0_standbyOf 72 = .ok (.ireturn, 1) := dk_172 (dk_at dksX0_standbyOf_3 4 rfl rfl)
theorem dX0_standbyOf_73 : decode cX0_standbyOf 73 = .ok (.aload_n 3, 1) := dk_45 (dk_at dksX0_standbyOf_3 5 rfl rfl)
theorem dX0_standbyOf_74 : decode cX0_standbyOf 74 = .ok (.getfield 150, 3) := dk_180 0 150 (dk_at dksX0_standbyOf_3 6 rfl rfl)
theorem dX0_standbyOf_77 : decode cX0_standbyOf 77 = .ok (.ireturn, 1) := dk_172 (dk_at dksX0_standbyOf_3 9 rfl rfl)
theorem dX0_standbyOf_78 : decode cX0_standbyOf 78 = .ok (.aload_n 3, 1) := dk_45 (dk_at dksX0_standbyOf_3 10 rfl rfl)
theorem dX0_standbyOf_79 : decode cX0_standbyOf 79 = .ok (.getfield 202, 3) := dk_180 0 202 (dk_at dksX0_standbyOf_3 11 rfl rfl)
theorem dX0_standbyOf_82 : decode cX0_standbyOf 82 = .ok (.invokevirtual 206, 3) := dk_182 0 206 (dk_at dksX0_standbyOf_3 14 rfl rfl)
theorem dX0_standbyOf_85 : decode cX0_standbyOf 85 = .ok (.ireturn, 1) := dk_172 (dk_at dksX0_standbyOf_3 17 rfl rfl)
theorem dX0_standbyOf_86 : decode cX0_standbyOf 86 = .ok (.aload_n 3, 1) := dk_45 (dk_at dksX0_standbyOf_3 18 rfl rfl)
theorem dX0_standbyOf_87 : decode cX0_standbyOf 87 = .ok (.getfield 202, 3) := dk_180 0 202 (dk_at dksX0_standbyOf_3 19 rfl rfl)
theorem dX0_standbyOf_90 : decode cX0_standbyOf 90 = .ok (.iconst 0, 1) := dk_3 (dk_at dksX0_standbyOf_3 22 rfl rfl)
theorem dX0_standbyOf_91 : decode cX0_standbyOf 91 = .ok (.invokevirtual 211, 3) := dk_182 0 211 (dk_at dksX0_standbyOf_4 0 rfl rfl)
theorem dX0_standbyOf_94 : decode cX0_standbyOf 94 = .ok (.invokestatic 184, 3) := dk_184 0 184 (dk_at dksX0_standbyOf_4 3 rfl rfl)
theorem dX0_standbyOf_97 : decode cX0_standbyOf 97 = .ok (.ireturn, 1) := dk_172 (dk_at dksX0_standbyOf_4 6 rfl rfl)
theorem dX0_standbyOf_98 : decode cX0_standbyOf 98 = .ok (.aload_n 3, 1) := dk_45 (dk_at dksX0_standbyOf_4 7 rfl rfl)
theorem dX0_standbyOf_99 : decode cX0_standbyOf 99 = .ok (.getfield 214, 3) := dk_180 0 214 (dk_at dksX0_standbyOf_4 8 rfl rfl)
theorem dX0_standbyOf_102 : decode cX0_standbyOf 102 = .ok (.ifCond .eq 7, 3) := dk_153 0 7 (dk_at dksX0_standbyOf_4 11 rfl rfl)
theorem dX0_standbyOf_105 : decode cX0_standbyOf 105 = .ok (.iconst 1, 1) := dk_4 (dk_at dksX0_standbyOf_4 14 rfl rfl)
theorem dX0_standbyOf_106 : decode cX0_standbyOf 106 = .ok (.goto 4, 3) := dk_167 0 4 (dk_at dksX0_standbyOf_4 15 rfl rfl)
theorem dX0_standbyOf_109 : decode cX0_standbyOf 109 = .ok (.iconst 0, 1) := dk_3 (dk_at dksX0_standbyOf_4 18 rfl rfl)
theorem dX0_standbyOf_110 : decode cX0_standbyOf 110 = .ok (.ireturn, 1) := dk_172 (dk_at dksX0_standbyOf_4 19 rfl rfl)
theorem dX0_standbyOf_111 : decode cX0_standbyOf 111 = .ok (.aload_n 0, 1) := dk_42 (dk_at dksX0_standbyOf_4 20 rfl rfl)
theorem dX0_standbyOf_112 : decode cX0_standbyOf 112 = .ok (.aload_n 3, 1) := dk_45 (dk_at dksX0_standbyOf_4 21 rfl rfl)
theorem dX0_standbyOf_113 : decode cX0_standbyOf 113 = .ok (.iload_n 2, 1) := dk_28 (dk_at dksX0_standbyOf_4 22 rfl rfl)
theorem dX0_standbyOf_114 : decode cX0_standbyOf 114 = .ok (.invokevirtual 218, 3) := dk_182 0 218 (dk_at dksX0_standbyOf_5 0 rfl rfl)
theorem dX0_standbyOf_117 : decode cX0_standbyOf 117 = .ok (.ireturn, 1) := dk_172 (dk_at dksX0_standbyOf_5 3 rfl rfl)
abbrev cX0_behind : ByteArray := prog_1_method_27_code
def yX0_behind : MethodName := ⟨RX0, "behind", "(LFencedStandbys$Standby;I)I"⟩
def dkwX0_behind_5 : List UInt8 := [182, 0, 175, 192, 0, 179, 180, 0, 193, 100, 172, 42, 180, 0, 10, 43, 180, 0, 150, 182, 0, 194, 172]
abbrev dktX0_behind_5 : List UInt8 := dkwX0_behind_5 ++ []
def dkwX0_behind_4 : List UInt8 := [167, 0, 33, 42, 180, 0, 10, 180, 0, 190, 42, 180, 0, 10, 180, 0, 131, 43, 180, 0, 150, 4, 96]
abbrev dktX0_behind_4 : List UInt8 := dkwX0_behind_4 ++ dktX0_behind_5
def dkwX0_behind_3 : List UInt8 := [182, 0, 187, 172, 43, 180, 0, 150, 42, 180, 0, 10, 180, 0, 131, 182, 0, 135, 160, 0, 8, 18, 169]
abbrev dktX0_behind_3 : List UInt8 := dkwX0_behind_3 ++ dktX0_behind_4
def dkwX0_behind_2 : List UInt8 := [42, 180, 0, 10, 180, 0, 131, 182, 0, 135, 43, 180, 0, 150, 100, 172, 42, 180, 0, 10, 43, 180, 0, 150]
abbrev dktX0_behind_2 : List UInt8 := dkwX0_behind_2 ++ dktX0_behind_3
def dkwX0_behind_1 : List UInt8 := [170, 0, 0, 0, 0, 0, 108, 0, 0, 0, 5, 0, 0, 0, 7, 0, 0, 0, 27, 0, 0, 0, 43, 0, 0, 0, 55]
abbrev dktX0_behind_1 : List UInt8 := dkwX0_behind_1 ++ dktX0_behind_2
def dkwX0_behind_0 : List UInt8 := [28]
abbrev dktX0_behind_0 : List UInt8 := dkwX0_behind_0 ++ dktX0_behind_1
theorem dksX0_behind_0 : cX0_behind.data.toList.drop 0 = dktX0_behind_0 := by decide +kernel
theorem dksX0_behind_1 : cX0_behind.data.toList.drop 1 = dktX0_behind_1 := dk_seg dksX0_behind_0 1 rfl rfl
theorem dksX0_behind_2 : cX0_behind.data.toList.drop 28 = dktX0_behind_2 := dk_seg dksX0_behind_1 27 rfl rfl
theorem dksX0_behind_3 : cX0_behind.data.toList.drop 52 = dktX0_behind_3 := dk_seg dksX0_behind_2 24 rfl rfl
theorem dksX0_behind_4 : cX0_behind.data.toList.drop 75 = dktX0_behind_4 := dk_seg dksX0_behind_3 23 rfl rfl
theorem dksX0_behind_5 : cX0_behind.data.toList.drop 98 = dktX0_behind_5 := dk_seg dksX0_behind_4 23 rfl rfl
theorem dX0_behind_0 : decode cX0_behind 0 = .ok (.iload_n 2, 1) := dk_28 (dk_at dksX0_behind_0 0 rfl rfl)
theorem dX0_behind_1 : decode cX0_behind 1 = .ok (.tableswitch 108 5 7 #[27, 43, 55], 27) := by decide +kernel
theorem dX0_behind_28 : decode cX0_behind 28 = .ok (.aload_n 0, 1) := dk_42 (dk_at dksX0_behind_2 0 rfl rfl)
theorem dX0_behind_29 : decode cX0_behind 29 = .ok (.getfield 10, 3) := dk_180 0 10 (dk_at dksX0_behind_2 1 rfl rfl)
theorem dX0_behind_32 : decode cX0_behind 32 = .ok (.getfield 131, 3) := dk_180 0 131 (dk_at dksX0_behind_2 4 rfl rfl)
theorem dX0_behind_35 : decode cX0_behind 35 = .ok (.invokevirtual 135, 3) := dk_182 0 135 (dk_at dksX0_behind_2 7 rfl rfl)
theorem dX0_behind_38 : decode cX0_behind 38 = .ok (.aload_n 1, 1) := dk_43 (dk_at dksX0_behind_2 10 rfl rfl)
theorem dX0_behind_39 : decode cX0_behind 39 = .ok (.getfield 150, 3) := dk_180 0 150 (dk_at dksX0_behind_2 11 rfl rfl)
theorem dX0_behind_42 : decode cX0_behind 42 = .ok (.isub, 1) := dk_100 (dk_at dksX0_behind_2 14 rfl rfl)
theorem dX0_behind_43 : decode cX0_behind 43 = .ok (.ireturn, 1) := dk_172 (dk_at dksX0_behind_2 15 rfl rfl)
theorem dX0_behind_44 : decode cX0_behind 44 = .ok (.aload_n 0, 1) := dk_42 (dk_at dksX0_behind_2 16 rfl rfl)
theorem dX0_behind_45 : decode cX0_behind 45 = .ok (.getfield 10, 3) := dk_180 0 10 (dk_at dksX0_behind_2 17 rfl rfl)
theorem dX0_behind_48 : decode cX0_behind 48 = .ok (.aload_n 1, 1) := dk_43 (dk_at dksX0_behind_2 20 rfl rfl)
theorem dX0_behind_49 : decode cX0_behind 49 = .ok (.getfield 150, 3) := dk_180 0 150 (dk_at dksX0_behind_2 21 rfl rfl)
theorem dX0_behind_52 : decode cX0_behind 52 = .ok (.invokevirtual 187, 3) := dk_182 0 187 (dk_at dksX0_behind_3 0 rfl rfl)
theorem dX0_behind_55 : decode cX0_behind 55 = .ok (.ireturn, 1) := dk_172 (dk_at dksX0_behind_3 3 rfl rfl)
theorem dX0_behind_56 : decode cX0_behind 56 = .ok (.aload_n 1, 1) := dk_43 (dk_at dksX0_behind_3 4 rfl rfl)
theorem dX0_behind_57 : decode cX0_behind 57 = .ok (.getfield 150, 3) := dk_180 0 150 (dk_at dksX0_behind_3 5 rfl rfl)
theorem dX0_behind_60 : decode cX0_behind 60 = .ok (.aload_n 0, 1) := dk_42 (dk_at dksX0_behind_3 8 rfl rfl)
theorem dX0_behind_61 : decode cX0_behind 61 = .ok (.getfield 10, 3) := dk_180 0 10 (dk_at dksX0_behind_3 9 rfl rfl)
theorem dX0_behind_64 : decode cX0_behind 64 = .ok (.getfield 131, 3) := dk_180 0 131 (dk_at dksX0_behind_3 12 rfl rfl)
theorem dX0_behind_67 : decode cX0_behind 67 = .ok (.invokevirtual 135, 3) := dk_182 0 135 (dk_at dksX0_behind_3 15 rfl rfl)
theorem dX0_behind_70 : decode cX0_behind 70 = .ok (.if_icmp .ne 8, 3) := dk_160 0 8 (dk_at dksX0_behind_3 18 rfl rfl)
theorem dX0_behind_73 : decode cX0_behind 73 = .ok (.ldc 169, 2) := dk_18 169 (dk_at dksX0_behind_3 21 rfl rfl)
theorem dX0_behind_75 : decode cX0_behind 75 = .ok (.goto 33, 3) := dk_167 0 33 (dk_at dksX0_behind_4 0 rfl rfl)
theorem dX0_behind_78 : decode cX0_behind 78 = .ok (.aload_n 0, 1) := dk_42 (dk_at dksX0_behind_4 3 rfl rfl)
theorem dX0_behind_79 : decode cX0_behind 79 = .ok (.getfield 10, 3) := dk_180 0 10 (dk_at dksX0_behind_4 4 rfl rfl)
theorem dX0_behind_82 : decode cX0_behind 82 = .ok (.getfield 190, 3) := dk_180 0 190 (dk_at dksX0_behind_4 7 rfl rfl)
theorem dX0_behind_85 : decode cX0_behind 85 = .ok (.aload_n 0, 1) := dk_42 (dk_at dksX0_behind_4 10 rfl rfl)
theorem dX0_behind_86 : decode cX0_behind 86 = .ok (.getfield 10, 3) := dk_180 0 10 (dk_at dksX0_behind_4 11 rfl rfl)
theorem dX0_behind_89 : decode cX0_behind 89 = .ok (.getfield 131, 3) := dk_180 0 131 (dk_at dksX0_behind_4 14 rfl rfl)
theorem dX0_behind_92 : decode cX0_behind 92 = .ok (.aload_n 1, 1) := dk_43 (dk_at dksX0_behind_4 17 rfl rfl)
theorem dX0_behind_93 : decode cX0_behind 93 = .ok (.getfield 150, 3) := dk_180 0 150 (dk_at dksX0_behind_4 18 rfl rfl)
theorem dX0_behind_96 : decode cX0_behind 96 = .ok (.iconst 1, 1) := dk_4 (dk_at dksX0_behind_4 21 rfl rfl)
theorem dX0_behind_97 : decode cX0_behind 97 = .ok (.iadd, 1) := dk_96 (dk_at dksX0_behind_4 22 rfl rfl)
theorem dX0_behind_98 : decode cX0_behind 98 = .ok (.invokevirtual 175, 3) := dk_182 0 175 (dk_at dksX0_behind_5 0 rfl rfl)
theorem dX0_behind_101 : decode cX0_behind 101 = .ok (.checkcast 179, 3) := dk_192 0 179 (dk_at dksX0_behind_5 3 rfl rfl)
theorem dX0_behind_104 : decode cX0_behind 104 = .ok (.getfield 193, 3) := dk_180 0 193 (dk_at dksX0_behind_5 6 rfl rfl)
theorem dX0_behind_107 : decode cX0_behind 107 = .ok (.isub, 1) := dk_100 (dk_at dksX0_behind_5 9 rfl rfl)
theorem dX0_behind_108 : decode cX0_behind 108 = .ok (.ireturn, 1) := dk_172 (dk_at dksX0_behind_5 10 rfl rfl)
theorem dX0_behind_109 : decode cX0_behind 109 = .ok (.aload_n 0, 1) := dk_42 (dk_at dksX0_behind_5 11 rfl rfl)
theorem dX0_behind_110 : decode cX0_behind 110 = .ok (.getfield 10, 3) := dk_180 0 10 (dk_at dksX0_behind_5 12 rfl rfl)
theorem dX0_behind_113 : decode cX0_behind 113 = .ok (.aload_n 1, 1) := dk_43 (dk_at dksX0_behind_5 15 rfl rfl)
theorem dX0_behind_114 : decode cX0_behind 114 = .ok (.getfield 150, 3) := dk_180 0 150 (dk_at dksX0_behind_5 16 rfl rfl)
theorem dX0_behind_117 : decode cX0_behind 117 = .ok (.invokevirtual 194, 3) := dk_182 0 194 (dk_at dksX0_behind_5 19 rfl rfl)
theorem dX0_behind_120 : decode cX0_behind 120 = .ok (.ireturn, 1) := dk_172 (dk_at dksX0_behind_5 22 rfl rfl)
abbrev cX0_slotOf : ByteArray := prog_1_method_29_code
def yX0_slotOf : MethodName := ⟨RX0, "slotOf", "(II)I"⟩
def dkwX0_slotOf_2 : List UInt8 := [180, 0, 162, 27, 46, 167, 0, 11, 42, 180, 0, 10, 27, 182, 0, 222, 172]
abbrev dktX0_slotOf_2 : List UInt8 := dkwX0_slotOf_2 ++ []
def dkwX0_slotOf_1 : List UInt8 := [180, 0, 162, 27, 46, 2, 160, 0, 8, 18, 169, 167, 0, 27, 28, 154, 0, 15, 42, 180, 0, 10]
abbrev dktX0_slotOf_1 : List UInt8 := dkwX0_slotOf_1 ++ dktX0_slotOf_2
def dkwX0_slotOf_0 : List UInt8 := [27, 184, 0, 64, 153, 0, 13, 28, 133, 9, 10, 184, 0, 44, 154, 0, 6, 18, 76, 172, 42, 180, 0, 10]
abbrev dktX0_slotOf_0 : List UInt8 := dkwX0_slotOf_0 ++ dktX0_slotOf_1
theorem dksX0_slotOf_0 : cX0_slotOf.data.toList.drop 0 = dktX0_slotOf_0 := by decide +kernel
theorem dksX0_slotOf_1 : cX0_slotOf.data.toList.drop 24 = dktX0_slotOf_1 := dk_seg dksX0_slotOf_0 24 rfl rfl
theorem dksX0_slotOf_2 : cX0_slotOf.data.toList.drop 46 = dktX0_slotOf_2 := dk_seg dksX0_slotOf_1 22 rfl rfl
theorem dX0_slotOf_0 : decode cX0_slotOf 0 = .ok (.iload_n 1, 1) := dk_27 (dk_at dksX0_slotOf_0 0 rfl rfl)
theorem dX0_slotOf_1 : decode cX0_slotOf 1 = .ok (.invokestatic 64, 3) := dk_184 0 64 (dk_at dksX0_slotOf_0 1 rfl rfl)
theorem dX0_slotOf_4 : decode cX0_slotOf 4 = .ok (.ifCond .eq 13, 3) := dk_153 0 13 (dk_at dksX0_slotOf_0 4 rfl rfl)
theorem dX0_slotOf_7 : decode cX0_slotOf 7 = .ok (.iload_n 2, 1) := dk_28 (dk_at dksX0_slotOf_0 7 rfl rfl)
theorem dX0_slotOf_8 : decode cX0_slotOf 8 = .ok (.i2l, 1) := dk_133 (dk_at dksX0_slotOf_0 8 rfl rfl)
theorem dX0_slotOf_9 : decode cX0_slotOf 9 = .ok (.lconst 0, 1) := dk_9 (dk_at dksX0_slotOf_0 9 rfl rfl)
theorem dX0_slotOf_10 : decode cX0_slotOf 10 = .ok (.lconst 1, 1) := dk_10 (dk_at dksX0_slotOf_0 10 rfl rfl)
theorem dX0_slotOf_11 : decode cX0_slotOf 11 = .ok (.invokestatic 44, 3) := dk_184 0 44 (dk_at dksX0_slotOf_0 11 rfl rfl)
theorem dX0_slotOf_14 : decode cX0_slotOf 14 = .ok (.ifCond .ne 6, 3) := dk_154 0 6 (dk_at dksX0_slotOf_0 14 rfl rfl)
theorem dX0_slotOf_17 : decode cX0_slotOf 17 = .ok (.ldc 76, 2) := dk_18 76 (dk_at dksX0_slotOf_0 17 rfl rfl)
theorem dX0_slotOf_19 : decode cX0_slotOf 19 = .ok (.ireturn, 1) := dk_172 (dk_at dksX0_slotOf_0 19 rfl rfl)
theorem dX0_slotOf_20 : decode cX0_slotOf 20 = .ok (.aload_n 0, 1) := dk_42 (dk_at dksX0_slotOf_0 20 rfl rfl)
theorem dX0_slotOf_21 : decode cX0_slotOf 21 = .ok (.getfield 10, 3) := dk_180 0 10 (dk_at dksX0_slotOf_0 21 rfl rfl)
theorem dX0_slotOf_24 : decode cX0_slotOf 24 = .ok (.getfield 162, 3) := dk_180 0 162 (dk_at dksX0_slotOf_1 0 rfl rfl)
theorem dX0_slotOf_27 : decode cX0_slotOf 27 = .ok (.iload_n 1, 1) := dk_27 (dk_at dksX0_slotOf_1 3 rfl rfl)
theorem dX0_slotOf_28 : decode cX0_slotOf 28 = .ok (.iaload, 1) := dk_46 (dk_at dksX0_slotOf_1 4 rfl rfl)
theorem dX0_slotOf_29 : decode cX0_slotOf 29 = .ok (.iconst (-1), 1) := dk_2 (dk_at dksX0_slotOf_1 5 rfl rfl)
theorem dX0_slotOf_30 : decode cX0_slotOf 30 = .ok (.if_icmp .ne 8, 3) := dk_160 0 8 (dk_at dksX0_slotOf_1 6 rfl rfl)
theorem dX0_slotOf_33 : decode cX0_slotOf 33 = .ok (.ldc 169, 2) := dk_18 169 (dk_at dksX0_slotOf_1 9 rfl rfl)
theorem dX0_slotOf_35 : decode cX0_slotOf 35 = .ok (.goto 27, 3) := dk_167 0 27 (dk_at dksX0_slotOf_1 11 rfl rfl)
theorem dX0_slotOf_38 : decode cX0_slotOf 38 = .ok (.iload_n 2, 1) := dk_28 (dk_at dksX0_slotOf_1 14 rfl rfl)
theorem dX0_slotOf_39 : decode cX0_slotOf 39 = .ok (.ifCond .ne 15, 3) := dk_154 0 15 (dk_at dksX0_slotOf_1 15 rfl rfl)
theorem dX0_slotOf_42 : decode cX0_slotOf 42 = .ok (.aload_n 0, 1) := dk_42 (dk_at dksX0_slotOf_1 18 rfl rfl)
theorem dX0_slotOf_43 : decode cX0_slotOf 43 = .ok (.getfield 10, 3) := dk_180 0 10 (dk_at dksX0_slotOf_1 19 rfl rfl)
theorem dX0_slotOf_46 : decode cX0_slotOf 46 = .ok (.getfield 162, 3) := dk_180 0 162 (dk_at dksX0_slotOf_2 0 rfl rfl)
theorem dX0_slotOf_49 : decode cX0_slotOf 49 = .ok (.iload_n 1, 1) := dk_27 (dk_at dksX0_slotOf_2 3 rfl rfl)
theorem dX0_slotOf_50 : decode cX0_slotOf 50 = .ok (.iaload, 1) := dk_46 (dk_at dksX0_slotOf_2 4 rfl rfl)
theorem dX0_slotOf_51 : decode cX0_slotOf 51 = .ok (.goto 11, 3) := dk_167 0 11 (dk_at dksX0_slotOf_2 5 rfl rfl)
theorem dX0_slotOf_54 : decode cX0_slotOf 54 = .ok (.aload_n 0, 1) := dk_42 (dk_at dksX0_slotOf_2 8 rfl rfl)
theorem dX0_slotOf_55 : decode cX0_slotOf 55 = .ok (.getfield 10, 3) := dk_180 0 10 (dk_at dksX0_slotOf_2 9 rfl rfl)
theorem dX0_slotOf_58 : decode cX0_slotOf 58 = .ok (.iload_n 1, 1) := dk_27 (dk_at dksX0_slotOf_2 12 rfl rfl)
theorem dX0_slotOf_59 : decode cX0_slotOf 59 = .ok (.invokevirtual 222, 3) := dk_182 0 222 (dk_at dksX0_slotOf_2 13 rfl rfl)
theorem dX0_slotOf_62 : decode cX0_slotOf 62 = .ok (.ireturn, 1) := dk_172 (dk_at dksX0_slotOf_2 16 rfl rfl)
abbrev cX0_waits : ByteArray := prog_1_method_31_code
def yX0_waits : MethodName := ⟨RX0, "waits", "(II)I"⟩
def dkwX0_waits_2 : List UInt8 := [183, 0, 106, 27, 28, 17, 0, 200, 184, 0, 224, 184, 0, 184, 172]
abbrev dktX0_waits_2 : List UInt8 := dkwX0_waits_2 ++ []
def dkwX0_waits_1 : List UInt8 := [180, 0, 141, 27, 50, 180, 0, 214, 153, 0, 8, 18, 156, 167, 0, 25, 187, 0, 7, 89, 42, 180, 0, 10]
abbrev dktX0_waits_1 : List UInt8 := dkwX0_waits_1 ++ dktX0_waits_2
def dkwX0_waits_0 : List UInt8 := [27, 184, 0, 60, 153, 0, 11, 42, 28, 182, 0, 138, 154, 0, 6, 18, 76, 172, 42, 180, 0, 10]
abbrev dktX0_waits_0 : List UInt8 := dkwX0_waits_0 ++ dktX0_waits_1
theorem dksX0_waits_0 : cX0_waits.data.toList.drop 0 = dktX0_waits_0 := by decide +kernel
theorem dksX0_waits_1 : cX0_waits.data.toList.drop 22 = dktX0_waits_1 := dk_seg dksX0_waits_0 22 rfl rfl
theorem dksX0_waits_2 : cX0_waits.data.toList.drop 46 = dktX0_waits_2 := dk_seg dksX0_waits_1 24 rfl rfl
theorem dX0_waits_0 : decode cX0_waits 0 = .ok (.iload_n 1, 1) := dk_27 (dk_at dksX0_waits_0 0 rfl rfl)
theorem dX0_waits_1 : decode cX0_waits 1 = .ok (.invokestatic 60, 3) := dk_184 0 60 (dk_at dksX0_waits_0 1 rfl rfl)
theorem dX0_waits_4 : decode cX0_waits 4 = .ok (.ifCond .eq 11, 3) := dk_153 0 11 (dk_at dksX0_waits_0 4 rfl rfl)
theorem dX0_waits_7 : decode cX0_waits 7 = .ok (.aload_n 0, 1) := dk_42 (dk_at dksX0_waits_0 7 rfl rfl)
theorem dX0_waits_8 : decode cX0_waits 8 = .ok (.iload_n 2, 1) := dk_28 (dk_at dksX0_waits_0 8 rfl rfl)
theorem dX0_waits_9 : decode cX0_waits 9 = .ok (.invokevirtual 138, 3) := dk_182 0 138 (dk_at dksX0_waits_0 9 rfl rfl)
theorem dX0_waits_12 : decode cX0_waits 12 = .ok (.ifCond .ne 6, 3) := dk_154 0 6 (dk_at dksX0_waits_0 12 rfl rfl)
theorem dX0_waits_15 : decode cX0_waits 15 = .ok (.ldc 76, 2) := dk_18 76 (dk_at dksX0_waits_0 15 rfl rfl)
theorem dX0_waits_17 : decode cX0_waits 17 = .ok (.ireturn, 1) := dk_172 (dk_at dksX0_waits_0 17 rfl rfl)
theorem dX0_waits_18 : decode cX0_waits 18 = .ok (.aload_n 0, 1) := dk_42 (dk_at dksX0_waits_0 18 rfl rfl)
theorem dX0_waits_19 : decode cX0_waits 19 = .ok (.getfield 10, 3) := dk_180 0 10 (dk_at dksX0_waits_0 19 rfl rfl)
theorem dX0_waits_22 : decode cX0_waits 22 = .ok (.getfield 141, 3) := dk_180 0 141 (dk_at dksX0_waits_1 0 rfl rfl)
theorem dX0_waits_25 : decode cX0_waits 25 = .ok (.iload_n 1, 1) := dk_27 (dk_at dksX0_waits_1 3 rfl rfl)
theorem dX0_waits_26 : decode cX0_waits 26 = .ok (.aaload, 1) := dk_50 (dk_at dksX0_waits_1 4 rfl rfl)
theorem dX0_waits_27 : decode cX0_waits 27 = .ok (.getfield 214, 3) := dk_180 0 214 (dk_at dksX0_waits_1 5 rfl rfl)
theorem dX0_waits_30 : decode cX0_waits 30 = .ok (.ifCond .eq 8, 3) := dk_153 0 8 (dk_at dksX0_waits_1 8 rfl rfl)
theorem dX0_waits_33 : decode cX0_waits 33 = .ok (.ldc 156, 2) := dk_18 156 (dk_at dksX0_waits_1 11 rfl rfl)
theorem dX0_waits_35 : decode cX0_waits 35 = .ok (.goto 25, 3) := dk_167 0 25 (dk_at dksX0_waits_1 13 rfl rfl)
theorem dX0_waits_38 : decode cX0_waits 38 = .ok (.new 7, 3) := dk_187 0 7 (dk_at dksX0_waits_1 16 rfl rfl)
theorem dX0_waits_41 : decode cX0_waits 41 = .ok (.dup, 1) := dk_89 (dk_at dksX0_waits_1 19 rfl rfl)
theorem dX0_waits_42 : decode cX0_waits 42 = .ok (.aload_n 0, 1) := dk_42 (dk_at dksX0_waits_1 20 rfl rfl)
theorem dX0_waits_43 : decode cX0_waits 43 = .ok (.getfield 10, 3) := dk_180 0 10 (dk_at dksX0_waits_1 21 rfl rfl)
theorem dX0_waits_46 : decode cX0_waits 46 = .ok (.invokespecial 106, 3) := dk_183 0 106 (dk_at dksX0_waits_2 0 rfl rfl)
theorem dX0_waits_49 : decode cX0_waits 49 = .ok (.iload_n 1, 1) := dk_27 (dk_at dksX0_waits_2 3 rfl rfl)
theorem dX0_waits_50 : decode cX0_waits 50 = .ok (.iload_n 2, 1) := dk_28 (dk_at dksX0_waits_2 4 rfl rfl)
theorem dX0_waits_51 : decode cX0_waits 51 = .ok (.sipush 200, 3) := dk_17 0 200 (dk_at dksX0_waits_2 5 rfl rfl)
theorem dX0_waits_54 : decode cX0_waits 54 = .ok (.invokestatic 224, 3) := dk_184 0 224 (dk_at dksX0_waits_2 8 rfl rfl)
theorem dX0_waits_57 : decode cX0_waits 57 = .ok (.invokestatic 184, 3) := dk_184 0 184 (dk_at dksX0_waits_2 11 rfl rfl)
theorem dX0_waits_60 : decode cX0_waits 60 = .ok (.ireturn, 1) := dk_172 (dk_at dksX0_waits_2 14 rfl rfl)
abbrev cX0_ticksTo : ByteArray := prog_1_method_30_code
def yX0_ticksTo : MethodName := ⟨RX0, "ticksTo", "(LFencedStandbys$Store;III)I"⟩
def dkwX0_ticksTo_1 : List UInt8 := [182, 0, 103, 54, 5, 132, 4, 1, 167, 255, 227, 21, 4, 29, 163, 0, 8, 21, 4, 167, 0, 4, 2, 172]
abbrev dktX0_ticksTo_1 : List UInt8 := dkwX0_ticksTo_1 ++ []
def dkwX0_ticksTo_0 : List UInt8 := [3, 54, 4, 21, 4, 29, 163, 0, 29, 42, 180, 0, 141, 27, 50, 180, 0, 150, 28, 162, 0, 16, 42, 4]
abbrev dktX0_ticksTo_0 : List UInt8 := dkwX0_ticksTo_0 ++ dktX0_ticksTo_1
theorem dksX0_ticksTo_0 : cX0_ticksTo.data.toList.drop 0 = dktX0_ticksTo_0 := by decide +kernel
theorem dksX0_ticksTo_1 : cX0_ticksTo.data.toList.drop 24 = dktX0_ticksTo_1 := dk_seg dksX0_ticksTo_0 24 rfl rfl
theorem dX0_ticksTo_0 : decode cX0_ticksTo 0 = .ok (.iconst 0, 1) := dk_3 (dk_at dksX0_ticksTo_0 0 rfl rfl)
theorem dX0_ticksTo_1 : decode cX0_ticksTo 1 = .ok (.istore 4, 2) := dk_54 4 (dk_at dksX0_ticksTo_0 1 rfl rfl)
theorem dX0_ticksTo_3 : decode cX0_ticksTo 3 = .ok (.iload 4, 2) := dk_21 4 (dk_at dksX0_ticksTo_0 3 rfl rfl)
theorem dX0_ticksTo_5 : decode cX0_ticksTo 5 = .ok (.iload_n 3, 1) := dk_29 (dk_at dksX0_ticksTo_0 5 rfl rfl)
theorem dX0_ticksTo_6 : decode cX0_ticksTo 6 = .ok (.if_icmp .gt 29, 3) := dk_163 0 29 (dk_at dksX0_ticksTo_0 6 rfl rfl)
theorem dX0_ticksTo_9 : decode cX0_ticksTo 9 = .ok (.aload_n 0, 1) := dk_42 (dk_at dksX0_ticksTo_0 9 rfl rfl)
theorem dX0_ticksTo_10 : decode cX0_ticksTo 10 = .ok (.getfield 141, 3) := dk_180 0 141 (dk_at dksX0_ticksTo_0 10 rfl rfl)
theorem dX0_ticksTo_13 : decode cX0_ticksTo 13 = .ok (.iload_n 1, 1) := dk_27 (dk_at dksX0_ticksTo_0 13 rfl rfl)
theorem dX0_ticksTo_14 : decode cX0_ticksTo 14 = .ok (.aaload, 1) := dk_50 (dk_at dksX0_ticksTo_0 14 rfl rfl)
theorem dX0_ticksTo_15 : decode cX0_ticksTo 15 = .ok (.getfield 150, 3) := dk_180 0 150 (dk_at dksX0_ticksTo_0 15 rfl rfl)
theorem dX0_ticksTo_18 : decode cX0_ticksTo 18 = .ok (.iload_n 2, 1) := dk_28 (dk_at dksX0_ticksTo_0 18 rfl rfl)
theorem dX0_ticksTo_19 : decode cX0_ticksTo 19 = .ok (.if_icmp .ge 16, 3) := dk_162 0 16 (dk_at dksX0_ticksTo_0 19 rfl rfl)
theorem dX0_ticksTo_22 : decode cX0_ticksTo 22 = .ok (.aload_n 0, 1) := dk_42 (dk_at dksX0_ticksTo_0 22 rfl rfl)
theorem dX0_ticksTo_23 : decode cX0_ticksTo 23 = .ok (.iconst 1, 1) := dk_4 (dk_at dksX0_ticksTo_0 23 rfl rfl)
theorem dX0_ticksTo_24 : decode cX0_ticksTo 24 = .ok (.invokevirtual 103, 3) := dk_182 0 103 (dk_at dksX0_ticksTo_1 0 rfl rfl)
theorem dX0_ticksTo_27 : decode cX0_ticksTo 27 = .ok (.istore 5, 2) := dk_54 5 (dk_at dksX0_ticksTo_1 3 rfl rfl)
theorem dX0_ticksTo_29 : decode cX0_ticksTo 29 = .ok (.iinc 4 1, 3) := dk_132 4 1 (dk_at dksX0_ticksTo_1 5 rfl rfl)
theorem dX0_ticksTo_32 : decode cX0_ticksTo 32 = .ok (.goto (-29), 3) := dk_167 255 227 (dk_at dksX0_ticksTo_1 8 rfl rfl)
theorem dX0_ticksTo_35 : decode cX0_ticksTo 35 = .ok (.iload 4, 2) := dk_21 4 (dk_at dksX0_ticksTo_1 11 rfl rfl)
theorem dX0_ticksTo_37 : decode cX0_ticksTo 37 = .ok (.iload_n 3, 1) := dk_29 (dk_at dksX0_ticksTo_1 13 rfl rfl)
theorem dX0_ticksTo_38 : decode cX0_ticksTo 38 = .ok (.if_icmp .gt 8, 3) := dk_163 0 8 (dk_at dksX0_ticksTo_1 14 rfl rfl)
theorem dX0_ticksTo_41 : decode cX0_ticksTo 41 = .ok (.iload 4, 2) := dk_21 4 (dk_at dksX0_ticksTo_1 17 rfl rfl)
theorem dX0_ticksTo_43 : decode cX0_ticksTo 43 = .ok (.goto 4, 3) := dk_167 0 4 (dk_at dksX0_ticksTo_1 19 rfl rfl)
theorem dX0_ticksTo_46 : decode cX0_ticksTo 46 = .ok (.iconst (-1), 1) := dk_2 (dk_at dksX0_ticksTo_1 22 rfl rfl)
theorem dX0_ticksTo_47 : decode cX0_ticksTo 47 = .ok (.ireturn, 1) := dk_172 (dk_at dksX0_ticksTo_1 23 rfl rfl)
abbrev cX0_wouldLose : ByteArray := prog_1_method_32_code
def yX0_wouldLose : MethodName := ⟨RX0, "wouldLose", "(I)I"⟩
def dkwX0_wouldLose_1 : List UInt8 := [153, 0, 8, 18, 156, 167, 0, 14, 42, 180, 0, 10, 44, 180, 0, 150, 182, 0, 187, 172]
abbrev dktX0_wouldLose_1 : List UInt8 := dkwX0_wouldLose_1 ++ []
def dkwX0_wouldLose_0 : List UInt8 := [27, 184, 0, 60, 154, 0, 6, 18, 76, 172, 42, 180, 0, 10, 180, 0, 141, 27, 50, 77, 44, 180, 0, 214]
abbrev dktX0_wouldLose_0 : List UInt8 := dkwX0_wouldLose_0 ++ dktX0_wouldLose_1
theorem dksX0_wouldLose_0 : cX0_wouldLose.data.toList.drop 0 = dktX0_wouldLose_0 := by decide +kernel
theorem dksX0_wouldLose_1 : cX0_wouldLose.data.toList.drop 24 = dktX0_wouldLose_1 := dk_seg dksX0_wouldLose_0 24 rfl rfl
theorem dX0_wouldLose_0 : decode cX0_wouldLose 0 = .ok (.iload_n 1, 1) := dk_27 (dk_at dksX0_wouldLose_0 0 rfl rfl)
theorem dX0_wouldLose_1 : decode cX0_wouldLose 1 = .ok (.invokestatic 60, 3) := dk_184 0 60 (dk_at dksX0_wouldLose_0 1 rfl rfl)
theorem dX0_wouldLose_4 : decode cX0_wouldLose 4 = .ok (.ifCond .ne 6, 3) := dk_154 0 6 (dk_at dksX0_wouldLose_0 4 rfl rfl)
theorem dX0_wouldLose_7 : decode cX0_wouldLose 7 = .ok (.ldc 76, 2) := dk_18 76 (dk_at dksX0_wouldLose_0 7 rfl rfl)
theorem dX0_wouldLose_9 : decode cX0_wouldLose 9 = .ok (.ireturn, 1) := dk_172 (dk_at dksX0_wouldLose_0 9 rfl rfl)
theorem dX0_wouldLose_10 : decode cX0_wouldLose 10 = .ok (.aload_n 0, 1) := dk_42 (dk_at dksX0_wouldLose_0 10 rfl rfl)
theorem dX0_wouldLose_11 : decode cX0_wouldLose 11 = .ok (.getfield 10, 3) := dk_180 0 10 (dk_at dksX0_wouldLose_0 11 rfl rfl)
theorem dX0_wouldLose_14 : decode cX0_wouldLose 14 = .ok (.getfield 141, 3) := dk_180 0 141 (dk_at dksX0_wouldLose_0 14 rfl rfl)
theorem dX0_wouldLose_17 : decode cX0_wouldLose 17 = .ok (.iload_n 1, 1) := dk_27 (dk_at dksX0_wouldLose_0 17 rfl rfl)
theorem dX0_wouldLose_18 : decode cX0_wouldLose 18 = .ok (.aaload, 1) := dk_50 (dk_at dksX0_wouldLose_0 18 rfl rfl)
theorem dX0_wouldLose_19 : decode cX0_wouldLose 19 = .ok (.astore_n 2, 1) := dk_77 (dk_at dksX0_wouldLose_0 19 rfl rfl)
theorem dX0_wouldLose_20 : decode cX0_wouldLose 20 = .ok (.aload_n 2, 1) := dk_44 (dk_at dksX0_wouldLose_0 20 rfl rfl)
theorem dX0_wouldLose_21 : decode cX0_wouldLose 21 = .ok (.getfield 214, 3) := dk_180 0 214 (dk_at dksX0_wouldLose_0 21 rfl rfl)
theorem dX0_wouldLose_24 : decode cX0_wouldLose 24 = .ok (.ifCond .eq 8, 3) := dk_153 0 8 (dk_at dksX0_wouldLose_1 0 rfl rfl)
theorem dX0_wouldLose_27 : decode cX0_wouldLose 27 = .ok (.ldc 156, 2) := dk_18 156 (dk_at dksX0_wouldLose_1 3 rfl rfl)
theorem dX0_wouldLose_29 : decode cX0_wouldLose 29 = .ok (.goto 14, 3) := dk_167 0 14 (dk_at dksX0_wouldLose_1 5 rfl rfl)
theorem dX0_wouldLose_32 : decode cX0_wouldLose 32 = .ok (.aload_n 0, 1) := dk_42 (dk_at dksX0_wouldLose_1 8 rfl rfl)
theorem dX0_wouldLose_33 : decode cX0_wouldLose 33 = .ok (.getfield 10, 3) := dk_180 0 10 (dk_at dksX0_wouldLose_1 9 rfl rfl)
theorem dX0_wouldLose_36 : decode cX0_wouldLose 36 = .ok (.aload_n 2, 1) := dk_44 (dk_at dksX0_wouldLose_1 12 rfl rfl)
theorem dX0_wouldLose_37 : decode cX0_wouldLose 37 = .ok (.getfield 150, 3) := dk_180 0 150 (dk_at dksX0_wouldLose_1 13 rfl rfl)
theorem dX0_wouldLose_40 : decode cX0_wouldLose 40 = .ok (.invokevirtual 187, 3) := dk_182 0 187 (dk_at dksX0_wouldLose_1 16 rfl rfl)
theorem dX0_wouldLose_43 : decode cX0_wouldLose 43 = .ok (.ireturn, 1) := dk_172 (dk_at dksX0_wouldLose_1 19 rfl rfl)
abbrev cX0_rateFor : ByteArray := prog_1_method_34_code
def yX0_rateFor : MethodName := ⟨RX0, "rateFor", "(II)I"⟩
def dkwX0_rateFor_3 : List UInt8 := [163, 0, 7, 29, 167, 0, 5, 18, 169, 172]
abbrev dktX0_rateFor_3 : List UInt8 := dkwX0_rateFor_3 ++ []
def dkwX0_rateFor_2 : List UInt8 := [163, 0, 19, 42, 27, 29, 28, 182, 0, 234, 154, 0, 9, 132, 3, 1, 167, 255, 237, 29, 16, 20]
abbrev dktX0_rateFor_2 : List UInt8 := dkwX0_rateFor_2 ++ dktX0_rateFor_3
def dkwX0_rateFor_1 : List UInt8 := [180, 0, 10, 180, 0, 141, 27, 50, 180, 0, 214, 153, 0, 6, 18, 156, 172, 4, 62, 29, 16, 20]
abbrev dktX0_rateFor_1 : List UInt8 := dkwX0_rateFor_1 ++ dktX0_rateFor_2
def dkwX0_rateFor_0 : List UInt8 := [27, 184, 0, 60, 153, 0, 15, 28, 133, 10, 20, 0, 50, 184, 0, 44, 154, 0, 6, 18, 76, 172, 42]
abbrev dktX0_rateFor_0 : List UInt8 := dkwX0_rateFor_0 ++ dktX0_rateFor_1
theorem dksX0_rateFor_0 : cX0_rateFor.data.toList.drop 0 = dktX0_rateFor_0 := by decide +kernel
theorem dksX0_rateFor_1 : cX0_rateFor.data.toList.drop 23 = dktX0_rateFor_1 := dk_seg dksX0_rateFor_0 23 rfl rfl
theorem dksX0_rateFor_2 : cX0_rateFor.data.toList.drop 45 = dktX0_rateFor_2 := dk_seg dksX0_rateFor_1 22 rfl rfl
theorem dksX0_rateFor_3 : cX0_rateFor.data.toList.drop 67 = dktX0_rateFor_3 := dk_seg dksX0_rateFor_2 22 rfl rfl
theorem dX0_rateFor_0 : decode cX0_rateFor 0 = .ok (.iload_n 1, 1) := dk_27 (dk_at dksX0_rateFor_0 0 rfl rfl)
theorem dX0_rateFor_1 : decode cX0_rateFor 1 = .ok (.invokestatic 60, 3) := dk_184 0 60 (dk_at dksX0_rateFor_0 1 rfl rfl)
theorem dX0_rateFor_4 : decode cX0_rateFor 4 = .ok (.ifCond .eq 15, 3) := dk_153 0 15 (dk_at dksX0_rateFor_0 4 rfl rfl)
theorem dX0_rateFor_7 : decode cX0_rateFor 7 = .ok (.iload_n 2, 1) := dk_28 (dk_at dksX0_rateFor_0 7 rfl rfl)
theorem dX0_rateFor_8 : decode cX0_rateFor 8 = .ok (.i2l, 1) := dk_133 (dk_at dksX0_rateFor_0 8 rfl rfl)
theorem dX0_rateFor_9 : decode cX0_rateFor 9 = .ok (.lconst 1, 1) := dk_10 (dk_at dksX0_rateFor_0 9 rfl rfl)
theorem dX0_rateFor_10 : decode cX0_rateFor 10 = .ok (.ldc2_w 50, 3) := dk_20 0 50 (dk_at dksX0_rateFor_0 10 rfl rfl)
theorem dX0_rateFor_13 : decode cX0_rateFor 13 = .ok (.invokestatic 44, 3) := dk_184 0 44 (dk_at dksX0_rateFor_0 13 rfl rfl)
theorem dX0_rateFor_16 : decode cX0_rateFor 16 = .ok (.ifCond .ne 6, 3) := dk_154 0 6 (dk_at dksX0_rateFor_0 16 rfl rfl)
theorem dX0_rateFor_19 : decode cX0_rateFor 19 = .ok (.ldc 76, 2) := dk_18 76 (dk_at dksX0_rateFor_0 19 rfl rfl)
theorem dX0_rateFor_21 : decode cX0_rateFor 21 = .ok (.ireturn, 1) := dk_172 (dk_at dksX0_rateFor_0 21 rfl rfl)
theorem dX0_rateFor_22 : decode cX0_rateFor 22 = .ok (.aload_n 0, 1) := dk_42 (dk_at dksX0_rateFor_0 22 rfl rfl)
theorem dX0_rateFor_23 : decode cX0_rateFor 23 = .ok (.getfield 10, 3) := dk_180 0 10 (dk_at dksX0_rateFor_1 0 rfl rfl)
theorem dX0_rateFor_26 : decode cX0_rateFor 26 = .ok (.getfield 141, 3) := dk_180 0 141 (dk_at dksX0_rateFor_1 3 rfl rfl)
theorem dX0_rateFor_29 : decode cX0_rateFor 29 = .ok (.iload_n 1, 1) := dk_27 (dk_at dksX0_rateFor_1 6 rfl rfl)
theorem dX0_rateFor_30 : decode cX0_rateFor 30 = .ok (.aaload, 1) := dk_50 (dk_at dksX0_rateFor_1 7 rfl rfl)
theorem dX0_rateFor_31 : decode cX0_rateFor 31 = .ok (.getfield 214, 3) := dk_180 0 214 (dk_at dksX0_rateFor_1 8 rfl rfl)
theorem dX0_rateFor_34 : decode cX0_rateFor 34 = .ok (.ifCond .eq 6, 3) := dk_153 0 6 (dk_at dksX0_rateFor_1 11 rfl rfl)
theorem dX0_rateFor_37 : decode cX0_rateFor 37 = .ok (.ldc 156, 2) := dk_18 156 (dk_at dksX0_rateFor_1 14 rfl rfl)
theorem dX0_rateFor_39 : decode cX0_rateFor 39 = .ok (.ireturn, 1) := dk_172 (dk_at dksX0_rateFor_1 16 rfl rfl)
theorem dX0_rateFor_40 : decode cX0_rateFor 40 = .ok (.iconst 1, 1) := dk_4 (dk_at dksX0_rateFor_1 17 rfl rfl)
theorem dX0_rateFor_41 : decode cX0_rateFor 41 = .ok (.istore_n 3, 1) := dk_62 (dk_at dksX0_rateFor_1 18 rfl rfl)
theorem dX0_rateFor_42 : decode cX0_rateFor 42 = .ok (.iload_n 3, 1) := dk_29 (dk_at dksX0_rateFor_1 19 rfl rfl)
theorem dX0_rateFor_43 : decode cX0_rateFor 43 = .ok (.bipush 20, 2) := dk_16 20 (dk_at dksX0_rateFor_1 20 rfl rfl)
theorem dX0_rateFor_45 : decode cX0_rateFor 45 = .ok (.if_icmp .gt 19, 3) := dk_163 0 19 (dk_at dksX0_rateFor_2 0 rfl rfl)
theorem dX0_rateFor_48 : decode cX0_rateFor 48 = .ok (.aload_n 0, 1) := dk_42 (dk_at dksX0_rateFor_2 3 rfl rfl)
theorem dX0_rateFor_49 : decode cX0_rateFor 49 = .ok (.iload_n 1, 1) := dk_27 (dk_at dksX0_rateFor_2 4 rfl rfl)
theorem dX0_rateFor_50 : decode cX0_rateFor 50 = .ok (.iload_n 3, 1) := dk_29 (dk_at dksX0_rateFor_2 5 rfl rfl)
theorem dX0_rateFor_51 : decode cX0_rateFor 51 = .ok (.iload_n 2, 1) := dk_28 (dk_at dksX0_rateFor_2 6 rfl rfl)
theorem dX0_rateFor_52 : decode cX0_rateFor 52 = .ok (.invokevirtual 234, 3) := dk_182 0 234 (dk_at dksX0_rateFor_2 7 rfl rfl)
theorem dX0_rateFor_55 : decode cX0_rateFor 55 = .ok (.ifCond .ne 9, 3) := dk_154 0 9 (dk_at dksX0_rateFor_2 10 rfl rfl)
theorem dX0_rateFor_58 : decode cX0_rateFor 58 = .ok (.iinc 3 1, 3) := dk_132 3 1 (dk_at dksX0_rateFor_2 13 rfl rfl)
theorem dX0_rateFor_61 : decode cX0_rateFor 61 = .ok (.goto (-19), 3) := dk_167 255 237 (dk_at dksX0_rateFor_2 16 rfl rfl)
theorem dX0_rateFor_64 : decode cX0_rateFor 64 = .ok (.iload_n 3, 1) := dk_29 (dk_at dksX0_rateFor_2 19 rfl rfl)
theorem dX0_rateFor_65 : decode cX0_rateFor 65 = .ok (.bipush 20, 2) := dk_16 20 (dk_at dksX0_rateFor_2 20 rfl rfl)
theorem dX0_rateFor_67 : decode cX0_rateFor 67 = .ok (.if_icmp .gt 7, 3) := dk_163 0 7 (dk_at dksX0_rateFor_3 0 rfl rfl)
theorem dX0_rateFor_70 : decode cX0_rateFor 70 = .ok (.iload_n 3, 1) := dk_29 (dk_at dksX0_rateFor_3 3 rfl rfl)
theorem dX0_rateFor_71 : decode cX0_rateFor 71 = .ok (.goto 5, 3) := dk_167 0 5 (dk_at dksX0_rateFor_3 4 rfl rfl)
theorem dX0_rateFor_74 : decode cX0_rateFor 74 = .ok (.ldc 169, 2) := dk_18 169 (dk_at dksX0_rateFor_3 7 rfl rfl)
theorem dX0_rateFor_76 : decode cX0_rateFor 76 = .ok (.ireturn, 1) := dk_172 (dk_at dksX0_rateFor_3 9 rfl rfl)
abbrev cX0_wouldDo : ByteArray := prog_1_method_33_code
def yX0_wouldDo : MethodName := ⟨RX0, "wouldDo", "(III)Z"⟩
def dkwX0_wouldDo_1 : List UInt8 := [25, 4, 180, 0, 141, 27, 50, 182, 0, 231, 29, 184, 0, 224, 2, 159, 0, 7, 4, 167, 0, 4, 3, 172]
abbrev dktX0_wouldDo_1 : List UInt8 := dkwX0_wouldDo_1 ++ []
def dkwX0_wouldDo_0 : List UInt8 := [187, 0, 7, 89, 42, 180, 0, 10, 183, 0, 106, 58, 4, 25, 4, 180, 0, 228, 3, 28, 79, 25, 4, 27]
abbrev dktX0_wouldDo_0 : List UInt8 := dkwX0_wouldDo_0 ++ dktX0_wouldDo_1
theorem dksX0_wouldDo_0 : cX0_wouldDo.data.toList.drop 0 = dktX0_wouldDo_0 := by decide +kernel
theorem dksX0_wouldDo_1 : cX0_wouldDo.data.toList.drop 24 = dktX0_wouldDo_1 := dk_seg dksX0_wouldDo_0 24 rfl rfl
theorem dX0_wouldDo_0 : decode cX0_wouldDo 0 = .ok (.new 7, 3) := dk_187 0 7 (dk_at dksX0_wouldDo_0 0 rfl rfl)
theorem dX0_wouldDo_3 : decode cX0_wouldDo 3 = .ok (.dup, 1) := dk_89 (dk_at dksX0_wouldDo_0 3 rfl rfl)
theorem dX0_wouldDo_4 : decode cX0_wouldDo 4 = .ok (.aload_n 0, 1) := dk_42 (dk_at dksX0_wouldDo_0 4 rfl rfl)
theorem dX0_wouldDo_5 : decode cX0_wouldDo 5 = .ok (.getfield 10, 3) := dk_180 0 10 (dk_at dksX0_wouldDo_0 5 rfl rfl)
theorem dX0_wouldDo_8 : decode cX0_wouldDo 8 = .ok (.invokespecial 106, 3) := dk_183 0 106 (dk_at dksX0_wouldDo_0 8 rfl rfl)
theorem dX0_wouldDo_11 : decode cX0_wouldDo 11 = .ok (.astore 4, 2) := dk_58 4 (dk_at dksX0_wouldDo_0 11 rfl rfl)
theorem dX0_wouldDo_13 : decode cX0_wouldDo 13 = .ok (.aload 4, 2) := dk_25 4 (dk_at dksX0_wouldDo_0 13 rfl rfl)
theorem dX0_wouldDo_15 : decode cX0_wouldDo 15 = .ok (.getfield 228, 3) := dk_180 0 228 (dk_at dksX0_wouldDo_0 15 rfl rfl)
theorem dX0_wouldDo_18 : decode cX0_wouldDo 18 = .ok (.iconst 0, 1) := dk_3 (dk_at dksX0_wouldDo_0 18 rfl rfl)
theorem dX0_wouldDo_19 : decode cX0_wouldDo 19 = .ok (.iload_n 2, 1) := dk_28 (dk_at dksX0_wouldDo_0 19 rfl rfl)
theorem dX0_wouldDo_20 : decode cX0_wouldDo 20 = .ok (.iastore, 1) := dk_79 (dk_at dksX0_wouldDo_0 20 rfl rfl)
theorem dX0_wouldDo_21 : decode cX0_wouldDo 21 = .ok (.aload 4, 2) := dk_25 4 (dk_at dksX0_wouldDo_0 21 rfl rfl)
theorem dX0_wouldDo_23 : decode cX0_wouldDo 23 = .ok (.iload_n 1, 1) := dk_27 (dk_at dksX0_wouldDo_0 23 rfl rfl)
theorem dX0_wouldDo_24 : decode cX0_wouldDo 24 = .ok (.aload 4, 2) := dk_25 4 (dk_at dksX0_wouldDo_1 0 rfl rfl)
theorem dX0_wouldDo_26 : decode cX0_wouldDo 26 = .ok (.getfield 141, 3) := dk_180 0 141 (dk_at dksX0_wouldDo_1 2 rfl rfl)
theorem dX0_wouldDo_29 : decode cX0_wouldDo 29 = .ok (.iload_n 1, 1) := dk_27 (dk_at dksX0_wouldDo_1 5 rfl rfl)
theorem dX0_wouldDo_30 : decode cX0_wouldDo 30 = .ok (.aaload, 1) := dk_50 (dk_at dksX0_wouldDo_1 6 rfl rfl)
theorem dX0_wouldDo_31 : decode cX0_wouldDo 31 = .ok (.invokevirtual 231, 3) := dk_182 0 231 (dk_at dksX0_wouldDo_1 7 rfl rfl)
theorem dX0_wouldDo_34 : decode cX0_wouldDo 34 = .ok (.iload_n 3, 1) := dk_29 (dk_at dksX0_wouldDo_1 10 rfl rfl)
theorem dX0_wouldDo_35 : decode cX0_wouldDo 35 = .ok (.invokestatic 224, 3) := dk_184 0 224 (dk_at dksX0_wouldDo_1 11 rfl rfl)
theorem dX0_wouldDo_38 : decode cX0_wouldDo 38 = .ok (.iconst (-1), 1) := dk_2 (dk_at dksX0_wouldDo_1 14 rfl rfl)
theorem dX0_wouldDo_39 : decode cX0_wouldDo 39 = .ok (.if_icmp .eq 7, 3) := dk_159 0 7 (dk_at dksX0_wouldDo_1 15 rfl rfl)
theorem dX0_wouldDo_42 : decode cX0_wouldDo 42 = .ok (.iconst 1, 1) := dk_4 (dk_at dksX0_wouldDo_1 18 rfl rfl)
theorem dX0_wouldDo_43 : decode cX0_wouldDo 43 = .ok (.goto 4, 3) := dk_167 0 4 (dk_at dksX0_wouldDo_1 19 rfl rfl)
theorem dX0_wouldDo_46 : decode cX0_wouldDo 46 = .ok (.iconst 0, 1) := dk_3 (dk_at dksX0_wouldDo_1 22 rfl rfl)
theorem dX0_wouldDo_47 : decode cX0_wouldDo 47 = .ok (.ireturn, 1) := dk_172 (dk_at dksX0_wouldDo_1 23 rfl rfl)
abbrev cX0_count : ByteArray := prog_1_method_35_code
def yX0_count : MethodName := ⟨RX0, "count", "(I)I"⟩
def dkwX0_count_6 : List UInt8 := [184, 0, 44, 153, 0, 18, 42, 180, 0, 10, 180, 0, 228, 27, 16, 20, 100, 46, 167, 0, 5, 18, 76, 172]
abbrev dktX0_count_6 : List UInt8 := dkwX0_count_6 ++ []
def dkwX0_count_5 : List UInt8 := [180, 0, 19, 182, 0, 34, 172, 42, 180, 0, 26, 182, 0, 251, 172, 27, 133, 20, 0, 72, 20, 0, 254]
abbrev dktX0_count_5 : List UInt8 := dkwX0_count_5 ++ dktX0_count_6
def dkwX0_count_4 : List UInt8 := [180, 0, 10, 180, 0, 244, 172, 42, 180, 0, 10, 180, 0, 247, 172, 42, 180, 0, 10, 180, 0, 250, 172, 42]
abbrev dktX0_count_4 : List UInt8 := dkwX0_count_4 ++ dktX0_count_5
def dkwX0_count_3 : List UInt8 := [180, 0, 238, 172, 42, 180, 0, 10, 180, 0, 241, 172, 42, 180, 0, 10, 3, 182, 0, 187, 172, 42]
abbrev dktX0_count_3 : List UInt8 := dkwX0_count_3 ++ dktX0_count_4
def dkwX0_count_2 : List UInt8 := [42, 180, 0, 10, 180, 0, 131, 182, 0, 135, 172, 42, 180, 0, 10, 180, 0, 190, 172, 42, 180, 0, 10]
abbrev dktX0_count_2 : List UInt8 := dkwX0_count_2 ++ dktX0_count_3
def dkwX0_count_1 : List UInt8 := [170, 0, 0, 0, 0, 0, 139, 0, 0, 0, 0, 0, 0, 0, 9, 0, 0, 0, 55, 0, 0, 0, 66, 0, 0, 0, 74, 0, 0, 0, 82, 0, 0, 0, 90, 0, 0, 0, 99, 0, 0, 0, 107, 0, 0, 0, 115, 0, 0, 0, 123, 0, 0, 0, 131]
abbrev dktX0_count_1 : List UInt8 := dkwX0_count_1 ++ dktX0_count_2
def dkwX0_count_0 : List UInt8 := [27]
abbrev dktX0_count_0 : List UInt8 := dkwX0_count_0 ++ dktX0_count_1
theorem dksX0_count_0 : cX0_count.data.toList.drop 0 = dktX0_count_0 := by decide +kernel
theorem dksX0_count_1 : cX0_count.data.toList.drop 1 = dktX0_count_1 := dk_seg dksX0_count_0 1 rfl rfl
theorem dksX0_count_2 : cX0_count.data.toList.drop 56 = dktX0_count_2 := dk_seg dksX0_count_1 55 rfl rfl
theorem dksX0_count_3 : cX0_count.data.toList.drop 79 = dktX0_count_3 := dk_seg dksX0_count_2 23 rfl rfl
theorem dksX0_count_4 : cX0_count.data.toList.drop 101 = dktX0_count_4 := dk_seg dksX0_count_3 22 rfl rfl
theorem dksX0_count_5 : cX0_count.data.toList.drop 125 = dktX0_count_5 := dk_seg dksX0_count_4 24 rfl rfl
theorem dksX0_count_6 : cX0_count.data.toList.drop 148 = dktX0_count_6 := dk_seg dksX0_count_5 23 rfl rfl
theorem dX0_count_0 : decode cX0_count 0 = .ok (.iload_n 1, 1) := dk_27 (dk_at dksX0_count_0 0 rfl rfl)
theorem dX0_count_1 : decode cX0_count 1 = .ok (.tableswitch 139 0 9 #[55, 66, 74, 82, 90, 99, 107, 115, 123, 131], 55) := by decide +kernel
theorem dX0_count_56 : decode cX0_count 56 = .ok (.aload_n 0, 1) := dk_42 (dk_at dksX0_count_2 0 rfl rfl)
theorem dX0_count_57 : decode cX0_count 57 = .ok (.getfield 10, 3) := dk_180 0 10 (dk_at dksX0_count_2 1 rfl rfl)
theorem dX0_count_60 : decode cX0_count 60 = .ok (.getfield 131, 3) := dk_180 0 131 (dk_at dksX0_count_2 4 rfl rfl)
theorem dX0_count_63 : decode cX0_count 63 = .ok (.invokevirtual 135, 3) := dk_182 0 135 (dk_at dksX0_count_2 7 rfl rfl)
theorem dX0_count_66 : decode cX0_count 66 = .ok (.ireturn, 1) := dk_172 (dk_at dksX0_count_2 10 rfl rfl)
theorem dX0_count_67 : decode cX0_count 67 = .ok (.aload_n 0, 1) := dk_42 (dk_at dksX0_count_2 11 rfl rfl)
theorem dX0_count_68 : decode cX0_count 68 = .ok (.getfield 10, 3) := dk_180 0 10 (dk_at dksX0_count_2 12 rfl rfl)
theorem dX0_count_71 : decode cX0_count 71 = .ok (.getfield 190, 3) := dk_180 0 190 (dk_at dksX0_count_2 15 rfl rfl)
theorem dX0_count_74 : decode cX0_count 74 = .ok (.ireturn, 1) := dk_172 (dk_at dksX0_count_2 18 rfl rfl)
theorem dX0_count_75 : decode cX0_count 75 = .ok (.aload_n 0, 1) := dk_42 (dk_at dksX0_count_2 19 rfl rfl)
theorem dX0_count_76 : decode cX0_count 76 = .ok (.getfield 10, 3) := dk_180 0 10 (dk_at dksX0_count_2 20 rfl rfl)
theorem dX0_count_79 : decode cX0_count 79 = .ok (.getfield 238, 3) := dk_180 0 238 (dk_at dksX0_count_3 0 rfl rfl)
theorem dX0_count_82 : decode cX0_count 82 = .ok (.ireturn, 1) := dk_172 (dk_at dksX0_count_3 3 rfl rfl)
theorem dX0_count_83 : decode cX0_count 83 = .ok (.aload_n 0, 1) := dk_42 (dk_at dksX0_count_3 4 rfl rfl)
theorem dX0_count_84 : decode cX0_count 84 = .ok (.getfield 10, 3) := dk_180 0 10 (dk_at dksX0_count_3 5 rfl rfl)
theorem dX0_count_87 : decode cX0_count 87 = .ok (.getfield 241, 3) := dk_180 0 241 (dk_at dksX0_count_3 8 rfl rfl)
theorem dX0_count_90 : decode cX0_count 90 = .ok (.ireturn, 1) := dk_172 (dk_at dksX0_count_3 11 rfl rfl)
theorem dX0_count_91 : decode cX0_count 91 = .ok (.aload_n 0, 1) := dk_42 (dk_at dksX0_count_3 12 rfl rfl)
theorem dX0_count_92 : decode cX0_count 92 = .ok (.getfield 10, 3) := dk_180 0 10 (dk_at dksX0_count_3 13 rfl rfl)
theorem dX0_count_95 : decode cX0_count 95 = .ok (.iconst 0, 1) := dk_3 (dk_at dksX0_count_3 16 rfl rfl)
theorem dX0_count_96 : decode cX0_count 96 = .ok (.invokevirtual 187, 3) := dk_182 0 187 (dk_at dksX0_count_3 17 rfl rfl)
theorem dX0_count_99 : decode cX0_count 99 = .ok (.ireturn, 1) := dk_172 (dk_at dksX0_count_3 20 rfl rfl)
theorem dX0_count_100 : decode cX0_count 100 = .ok (.aload_n 0, 1) := dk_42 (dk_at dksX0_count_3 21 rfl rfl)
theorem dX0_count_101 : decode cX0_count 101 = .ok (.getfield 10, 3) := dk_180 0 10 (dk_at dksX0_count_4 0 rfl rfl)
theorem dX0_count_104 : decode cX0_count 104 = .ok (.getfield 244, 3) := dk_180 0 244 (dk_at dksX0_count_4 3 rfl rfl)
theorem dX0_count_107 : decode cX0_count 107 = .ok (.ireturn, 1) := dk_172 (dk_at dksX0_count_4 6 rfl rfl)
theorem dX0_count_108 : decode cX0_count 108 = .ok (.aload_n 0, 1) := dk_42 (dk_at dksX0_count_4 7 rfl rfl)
theorem dX0_count_109 : decode cX0_count 109 = .ok (.getfield 10, 3) := dk_180 0 10 (dk_at dksX0_count_4 8 rfl rfl)
theorem dX0_count_112 : decode cX0_count 112 = .ok (.getfield 247, 3) := dk_180 0 247 (dk_at dksX0_count_4 11 rfl rfl)
theorem dX0_count_115 : decode cX0_count 115 = .ok (.ireturn, 1) := dk_172 (dk_at dksX0_count_4 14 rfl rfl)
theorem dX0_count_116 : decode cX0_count 116 = .ok (.aload_n 0, 1) := dk_42 (dk_at dksX0_count_4 15 rfl rfl)
theorem dX0_count_117 : decode cX0_count 117 = .ok (.getfield 10, 3) := dk_180 0 10 (dk_at dksX0_count_4 16 rfl rfl)
theorem dX0_count_120 : decode cX0_count 120 = .ok (.getfield 250, 3) := dk_180 0 250 (dk_at dksX0_count_4 19 rfl rfl)
theorem dX0_count_123 : decode cX0_count 123 = .ok (.ireturn, 1) := dk_172 (dk_at dksX0_count_4 22 rfl rfl)
theorem dX0_count_124 : decode cX0_count 124 = .ok (.aload_n 0, 1) := dk_42 (dk_at dksX0_count_4 23 rfl rfl)
theorem dX0_count_125 : decode cX0_count 125 = .ok (.getfield 19, 3) := dk_180 0 19 (dk_at dksX0_count_5 0 rfl rfl)
theorem dX0_count_128 : decode cX0_count 128 = .ok (.invokevirtual 34, 3) := dk_182 0 34 (dk_at dksX0_count_5 3 rfl rfl)
theorem dX0_count_131 : decode cX0_count 131 = .ok (.ireturn, 1) := dk_172 (dk_at dksX0_count_5 6 rfl rfl)
theorem dX0_count_132 : decode cX0_count 132 = .ok (.aload_n 0, 1) := dk_42 (dk_at dksX0_count_5 7 rfl rfl)
theorem dX0_count_133 : decode cX0_count 133 = .ok (.getfield 26, 3) := dk_180 0 26 (dk_at dksX0_count_5 8 rfl rfl)
theorem dX0_count_136 : decode cX0_count 136 = .ok (.invokevirtual 251, 3) := dk_182 0 251 (dk_at dksX0_count_5 11 rfl rfl)
theorem dX0_count_139 : decode cX0_count 139 = .ok (.ireturn, 1) := dk_172 (dk_at dksX0_count_5 14 rfl rfl)
theorem dX0_count_140 : decode cX0_count 140 = .ok (.iload_n 1, 1) := dk_27 (dk_at dksX0_count_5 15 rfl rfl)
theorem dX0_count_141 : decode cX0_count 141 = .ok (.i2l, 1) := dk_133 (dk_at dksX0_count_5 16 rfl rfl)
theorem dX0_count_142 : decode cX0_count 142 = .ok (.ldc2_w 72, 3) := dk_20 0 72 (dk_at dksX0_count_5 17 rfl rfl)
theorem dX0_count_145 : decode cX0_count 145 = .ok (.ldc2_w 254, 3) := dk_20 0 254 (dk_at dksX0_count_5 20 rfl rfl)
theorem dX0_count_148 : decode cX0_count 148 = .ok (.invokestatic 44, 3) := dk_184 0 44 (dk_at dksX0_count_6 0 rfl rfl)
theorem dX0_count_151 : decode cX0_count 151 = .ok (.ifCond .eq 18, 3) := dk_153 0 18 (dk_at dksX0_count_6 3 rfl rfl)
theorem dX0_count_154 : decode cX0_count 154 = .ok (.aload_n 0, 1) := dk_42 (dk_at dksX0_count_6 6 rfl rfl)
theorem dX0_count_155 : decode cX0_count 155 = .ok (.getfield 10, 3) := dk_180 0 10 (dk_at dksX0_count_6 7 rfl rfl)
theorem dX0_count_158 : decode cX0_count 158 = .ok (.getfield 228, 3) := dk_180 0 228 (dk_at dksX0_count_6 10 rfl rfl)
theorem dX0_count_161 : decode cX0_count 161 = .ok (.iload_n 1, 1) := dk_27 (dk_at dksX0_count_6 13 rfl rfl)
theorem dX0_count_162 : decode cX0_count 162 = .ok (.bipush 20, 2) := dk_16 20 (dk_at dksX0_count_6 14 rfl rfl)
theorem dX0_count_164 : decode cX0_count 164 = .ok (.isub, 1) := dk_100 (dk_at dksX0_count_6 16 rfl rfl)
theorem dX0_count_165 : decode cX0_count 165 = .ok (.iaload, 1) := dk_46 (dk_at dksX0_count_6 17 rfl rfl)
theorem dX0_count_166 : decode cX0_count 166 = .ok (.goto 5, 3) := dk_167 0 5 (dk_at dksX0_count_6 18 rfl rfl)
theorem dX0_count_169 : decode cX0_count 169 = .ok (.ldc 76, 2) := dk_18 76 (dk_at dksX0_count_6 21 rfl rfl)
theorem dX0_count_171 : decode cX0_count 171 = .ok (.ireturn, 1) := dk_172 (dk_at dksX0_count_6 23 rfl rfl)
abbrev cX0_undo : ByteArray := prog_1_method_36_code
def yX0_undo : MethodName := ⟨RX0, "undo", "()I"⟩
def dkwX0_undo_1 : List UInt8 := [181, 0, 10, 42, 180, 0, 19, 182, 0, 34, 172]
abbrev dktX0_undo_1 : List UInt8 := dkwX0_undo_1 ++ []
def dkwX0_undo_0 : List UInt8 := [42, 180, 0, 19, 182, 1, 0, 153, 0, 6, 18, 156, 172, 42, 42, 180, 0, 19, 182, 1, 4, 192, 0, 7]
abbrev dktX0_undo_0 : List UInt8 := dkwX0_undo_0 ++ dktX0_undo_1
theorem dksX0_undo_0 : cX0_undo.data.toList.drop 0 = dktX0_undo_0 := by decide +kernel
theorem dksX0_undo_1 : cX0_undo.data.toList.drop 24 = dktX0_undo_1 := dk_seg dksX0_undo_0 24 rfl rfl
theorem dX0_undo_0 : decode cX0_undo 0 = .ok (.aload_n 0, 1) := dk_42 (dk_at dksX0_undo_0 0 rfl rfl)
theorem dX0_undo_1 : decode cX0_undo 1 = .ok (.getfield 19, 3) := dk_180 0 19 (dk_at dksX0_undo_0 1 rfl rfl)
theorem dX0_undo_4 : decode cX0_undo 4 = .ok (.invokevirtual 256, 3) := dk_182 1 0 (dk_at dksX0_undo_0 4 rfl rfl)
theorem dX0_undo_7 : decode cX0_undo 7 = .ok (.ifCond .eq 6, 3) := dk_153 0 6 (dk_at dksX0_undo_0 7 rfl rfl)
theorem dX0_undo_10 : decode cX0_undo 10 = .ok (.ldc 156, 2) := dk_18 156 (dk_at dksX0_undo_0 10 rfl rfl)
theorem dX0_undo_12 : decode cX0_undo 12 = .ok (.ireturn, 1) := dk_172 (dk_at dksX0_undo_0 12 rfl rfl)
theorem dX0_undo_13 : decode cX0_undo 13 = .ok (.aload_n 0, 1) := dk_42 (dk_at dksX0_undo_0 13 rfl rfl)
theorem dX0_undo_14 : decode cX0_undo 14 = .ok (.aload_n 0, 1) := dk_42 (dk_at dksX0_undo_0 14 rfl rfl)
theorem dX0_undo_15 : decode cX0_undo 15 = .ok (.getfield 19, 3) := dk_180 0 19 (dk_at dksX0_undo_0 15 rfl rfl)
theorem dX0_undo_18 : decode cX0_undo 18 = .ok (.invokevirtual 260, 3) := dk_182 1 4 (dk_at dksX0_undo_0 18 rfl rfl)
theorem dX0_undo_21 : decode cX0_undo 21 = .ok (.checkcast 7, 3) := dk_192 0 7 (dk_at dksX0_undo_0 21 rfl rfl)
theorem dX0_undo_24 : decode cX0_undo 24 = .ok (.putfield 10, 3) := dk_181 0 10 (dk_at dksX0_undo_1 0 rfl rfl)
theorem dX0_undo_27 : decode cX0_undo 27 = .ok (.aload_n 0, 1) := dk_42 (dk_at dksX0_undo_1 3 rfl rfl)
theorem dX0_undo_28 : decode cX0_undo 28 = .ok (.getfield 19, 3) := dk_180 0 19 (dk_at dksX0_undo_1 4 rfl rfl)
theorem dX0_undo_31 : decode cX0_undo 31 = .ok (.invokevirtual 34, 3) := dk_182 0 34 (dk_at dksX0_undo_1 7 rfl rfl)
theorem dX0_undo_34 : decode cX0_undo 34 = .ok (.ireturn, 1) := dk_172 (dk_at dksX0_undo_1 10 rfl rfl)
abbrev cX0_type : ByteArray := prog_1_method_37_code
def yX0_type : MethodName := ⟨RX0, "type", "(I)I"⟩
def dkwX0_type_2 : List UInt8 := [182, 0, 251, 172]
abbrev dktX0_type_2 : List UInt8 := dkwX0_type_2 ++ []
def dkwX0_type_1 : List UInt8 := [16, 60, 160, 0, 7, 19, 1, 11, 172, 42, 180, 0, 26, 27, 146, 182, 1, 12, 87, 42, 180, 0, 26]
abbrev dktX0_type_1 : List UInt8 := dkwX0_type_1 ++ dktX0_type_2
def dkwX0_type_0 : List UInt8 := [27, 133, 20, 1, 7, 20, 1, 9, 184, 0, 44, 154, 0, 6, 18, 76, 172, 42, 180, 0, 26, 182, 0, 251]
abbrev dktX0_type_0 : List UInt8 := dkwX0_type_0 ++ dktX0_type_1
theorem dksX0_type_0 : cX0_type.data.toList.drop 0 = dktX0_type_0 := by decide +kernel
theorem dksX0_type_1 : cX0_type.data.toList.drop 24 = dktX0_type_1 := dk_seg dksX0_type_0 24 rfl rfl
theorem dksX0_type_2 : cX0_type.data.toList.drop 47 = dktX0_type_2 := dk_seg dksX0_type_1 23 rfl rfl
theorem dX0_type_0 : decode cX0_type 0 = .ok (.iload_n 1, 1) := dk_27 (dk_at dksX0_type_0 0 rfl rfl)
theorem dX0_type_1 : decode cX0_type 1 = .ok (.i2l, 1) := dk_133 (dk_at dksX0_type_0 1 rfl rfl)
theorem dX0_type_2 : decode cX0_type 2 = .ok (.ldc2_w 263, 3) := dk_20 1 7 (dk_at dksX0_type_0 2 rfl rfl)
theorem dX0_type_5 : decode cX0_type 5 = .ok (.ldc2_w 265, 3) := dk_20 1 9 (dk_at dksX0_type_0 5 rfl rfl)
theorem dX0_type_8 : decode cX0_type 8 = .ok (.invokestatic 44, 3) := dk_184 0 44 (dk_at dksX0_type_0 8 rfl rfl)
theorem dX0_type_11 : decode cX0_type 11 = .ok (.ifCond .ne 6, 3) := dk_154 0 6 (dk_at dksX0_type_0 11 rfl rfl)
theorem dX0_type_14 : decode cX0_type 14 = .ok (.ldc 76, 2) := dk_18 76 (dk_at dksX0_type_0 14 rfl rfl)
theorem dX0_type_16 : decode cX0_type 16 = .ok (.ireturn, 1) := dk_172 (dk_at dksX0_type_0 16 rfl rfl)
theorem dX0_type_17 : decode cX0_type 17 = .ok (.aload_n 0, 1) := dk_42 (dk_at dksX0_type_0 17 rfl rfl)
theorem dX0_type_18 : decode cX0_type 18 = .ok (.getfield 26, 3) := dk_180 0 26 (dk_at dksX0_type_0 18 rfl rfl)
theorem dX0_type_21 : decode cX0_type 21 = .ok (.invokevirtual 251, 3) := dk_182 0 251 (dk_at dksX0_type_0 21 rfl rfl)
theorem dX0_type_24 : decode cX0_type 24 = .ok (.bipush 60, 2) := dk_16 60 (dk_at dksX0_type_1 0 rfl rfl)
theorem dX0_type_26 : decode cX0_type 26 = .ok (.if_icmp .ne 7, 3) := dk_160 0 7 (dk_at dksX0_type_1 2 rfl rfl)
theorem dX0_type_29 : decode cX0_type 29 = .ok (.ldc_w 267, 3) := dk_19 1 11 (dk_at dksX0_type_1 5 rfl rfl)
theorem dX0_type_32 : decode cX0_type 32 = .ok (.ireturn, 1) := dk_172 (dk_at dksX0_type_1 8 rfl rfl)
theorem dX0_type_33 : decode cX0_type 33 = .ok (.aload_n 0, 1) := dk_42 (dk_at dksX0_type_1 9 rfl rfl)
theorem dX0_type_34 : decode cX0_type 34 = .ok (.getfield 26, 3) := dk_180 0 26 (dk_at dksX0_type_1 10 rfl rfl)
theorem dX0_type_37 : decode cX0_type 37 = .ok (.iload_n 1, 1) := dk_27 (dk_at dksX0_type_1 13 rfl rfl)
theorem dX0_type_38 : decode cX0_type 38 = .ok (.i2c, 1) := dk_146 (dk_at dksX0_type_1 14 rfl rfl)
theorem dX0_type_39 : decode cX0_type 39 = .ok (.invokevirtual 268, 3) := dk_182 1 12 (dk_at dksX0_type_1 15 rfl rfl)
theorem dX0_type_42 : decode cX0_type 42 = .ok (.pop, 1) := dk_87 (dk_at dksX0_type_1 18 rfl rfl)
theorem dX0_type_43 : decode cX0_type 43 = .ok (.aload_n 0, 1) := dk_42 (dk_at dksX0_type_1 19 rfl rfl)
theorem dX0_type_44 : decode cX0_type 44 = .ok (.getfield 26, 3) := dk_180 0 26 (dk_at dksX0_type_1 20 rfl rfl)
theorem dX0_type_47 : decode cX0_type 47 = .ok (.invokevirtual 251, 3) := dk_182 0 251 (dk_at dksX0_type_2 0 rfl rfl)
theorem dX0_type_50 : decode cX0_type 50 = .ok (.ireturn, 1) := dk_172 (dk_at dksX0_type_2 3 rfl rfl)
abbrev cX0_clearText : ByteArray := prog_1_method_38_code
def yX0_clearText : MethodName := ⟨RX0, "clearText", "()I"⟩
def dkwX0_clearText_0 : List UInt8 := [42, 180, 0, 26, 182, 0, 251, 60, 42, 180, 0, 26, 3, 182, 1, 16, 27, 172]
abbrev dktX0_clearText_0 : List UInt8 := dkwX0_clearText_0 ++ []
theorem dksX0_clearText_0 : cX0_clearText.data.toList.drop 0 = dktX0_clearText_0 := by decide +kernel
theorem dX0_clearText_0 : decode cX0_clearText 0 = .ok (.aload_n 0, 1) := dk_42 (dk_at dksX0_clearText_0 0 rfl rfl)
theorem dX0_clearText_1 : decode cX0_clearText 1 = .ok (.getfield 26, 3) := dk_180 0 26 (dk_at dksX0_clearText_0 1 rfl rfl)
theorem dX0_clearText_4 : decode cX0_clearText 4 = .ok (.invokevirtual 251, 3) := dk_182 0 251 (dk_at dksX0_clearText_0 4 rfl rfl)
theorem dX0_clearText_7 : decode cX0_clearText 7 = .ok (.istore_n 1, 1) := dk_60 (dk_at dksX0_clearText_0 7 rfl rfl)
theorem dX0_clearText_8 : decode cX0_clearText 8 = .ok (.aload_n 0, 1) := dk_42 (dk_at dksX0_clearText_0 8 rfl rfl)
theorem dX0_clearText_9 : decode cX0_clearText 9 = .ok (.getfield 26, 3) := dk_180 0 26 (dk_at dksX0_clearText_0 9 rfl rfl)
theorem dX0_clearText_12 : decode cX0_clearText 12 = .ok (.iconst 0, 1) := dk_3 (dk_at dksX0_clearText_0 12 rfl rfl)
theorem dX0_clearText_13 : decode cX0_clearText 13 = .ok (.invokevirtual 272, 3) := dk_182 1 16 (dk_at dksX0_clearText_0 13 rfl rfl)
theorem dX0_clearText_16 : decode cX0_clearText 16 = .ok (.iload_n 1, 1) := dk_27 (dk_at dksX0_clearText_0 16 rfl rfl)
theorem dX0_clearText_17 : decode cX0_clearText 17 = .ok (.ireturn, 1) := dk_172 (dk_at dksX0_clearText_0 17 rfl rfl)
abbrev cX0_fault : ByteArray := prog_1_method_39_code
def yX0_fault : MethodName := ⟨RX0, "fault", "(I)I"⟩
def dkwX0_fault_2 : List UInt8 := [182, 1, 32, 167, 0, 7, 44, 182, 1, 35, 172]
abbrev dktX0_fault_2 : List UInt8 := dkwX0_fault_2 ++ []
def dkwX0_fault_1 : List UInt8 := [182, 1, 24, 18, 169, 172, 77, 27, 154, 0, 10, 44, 180, 1, 29, 167, 0, 19, 27, 4, 160, 0, 10, 44]
abbrev dktX0_fault_1 : List UInt8 := dkwX0_fault_1 ++ dktX0_fault_2
def dkwX0_fault_0 : List UInt8 := [27, 133, 9, 20, 0, 42, 184, 0, 44, 154, 0, 6, 18, 76, 172, 187, 1, 19, 89, 42, 183, 1, 21]
abbrev dktX0_fault_0 : List UInt8 := dkwX0_fault_0 ++ dktX0_fault_1
theorem dksX0_fault_0 : cX0_fault.data.toList.drop 0 = dktX0_fault_0 := by decide +kernel
theorem dksX0_fault_1 : cX0_fault.data.toList.drop 23 = dktX0_fault_1 := dk_seg dksX0_fault_0 23 rfl rfl
theorem dksX0_fault_2 : cX0_fault.data.toList.drop 47 = dktX0_fault_2 := dk_seg dksX0_fault_1 24 rfl rfl
theorem dX0_fault_0 : decode cX0_fault 0 = .ok (.iload_n 1, 1) := dk_27 (dk_at dksX0_fault_0 0 rfl rfl)
theorem dX0_fault_1 : decode cX0_fault 1 = .ok (.i2l, 1) := dk_133 (dk_at dksX0_fault_0 1 rfl rfl)
theorem dX0_fault_2 : decode cX0_fault 2 = .ok (.lconst 0, 1) := dk_9 (dk_at dksX0_fault_0 2 rfl rfl)
theorem dX0_fault_3 : decode cX0_fault 3 = .ok (.ldc2_w 42, 3) := dk_20 0 42 (dk_at dksX0_fault_0 3 rfl rfl)
theorem dX0_fault_6 : decode cX0_fault 6 = .ok (.invokestatic 44, 3) := dk_184 0 44 (dk_at dksX0_fault_0 6 rfl rfl)
theorem dX0_fault_9 : decode cX0_fault 9 = .ok (.ifCond .ne 6, 3) := dk_154 0 6 (dk_at dksX0_fault_0 9 rfl rfl)
theorem dX0_fault_12 : decode cX0_fault 12 = .ok (.ldc 76, 2) := dk_18 76 (dk_at dksX0_fault_0 12 rfl rfl)
theorem dX0_fault_14 : decode cX0_fault 14 = .ok (.ireturn, 1) := dk_172 (dk_at dksX0_fault_0 14 rfl rfl)
theorem dX0_fault_15 : decode cX0_fault 15 = .ok (.new 275, 3) := dk_187 1 19 (dk_at dksX0_fault_0 15 rfl rfl)
theorem dX0_fault_18 : decode cX0_fault 18 = .ok (.dup, 1) := dk_89 (dk_at dksX0_fault_0 18 rfl rfl)
theorem dX0_fault_19 : decode cX0_fault 19 = .ok (.aload_n 0, 1) := dk_42 (dk_at dksX0_fault_0 19 rfl rfl)
theorem dX0_fault_20 : decode cX0_fault 20 = .ok (.invokespecial 277, 3) := dk_183 1 21 (dk_at dksX0_fault_0 20 rfl rfl)
theorem dX0_fault_23 : decode cX0_fault 23 = .ok (.invokevirtual 280, 3) := dk_182 1 24 (dk_at dksX0_fault_1 0 rfl rfl)
theorem dX0_fault_26 : decode cX0_fault 26 = .ok (.ldc 169, 2) := dk_18 169 (dk_at dksX0_fault_1 3 rfl rfl)
theorem dX0_fault_28 : decode cX0_fault 28 = .ok (.ireturn, 1) := dk_172 (dk_at dksX0_fault_1 5 rfl rfl)
theorem dX0_fault_29 : decode cX0_fault 29 = .ok (.astore_n 2, 1) := dk_77 (dk_at dksX0_fault_1 6 rfl rfl)
theorem dX0_fault_30 : decode cX0_fault 30 = .ok (.iload_n 1, 1) := dk_27 (dk_at dksX0_fault_1 7 rfl rfl)
theorem dX0_fault_31 : decode cX0_fault 31 = .ok (.ifCond .ne 10, 3) := dk_154 0 10 (dk_at dksX0_fault_1 8 rfl rfl)
theorem dX0_fault_34 : decode cX0_fault 34 = .ok (.aload_n 2, 1) := dk_44 (dk_at dksX0_fault_1 11 rfl rfl)
theorem dX0_fault_35 : decode cX0_fault 35 = .ok (.getfield 285, 3) := dk_180 1 29 (dk_at dksX0_fault_1 12 rfl rfl)
theorem dX0_fault_38 : decode cX0_fault 38 = .ok (.goto 19, 3) := dk_167 0 19 (dk_at dksX0_fault_1 15 rfl rfl)
theorem dX0_fault_41 : decode cX0_fault 41 = .ok (.iload_n 1, 1) := dk_27 (dk_at dksX0_fault_1 18 rfl rfl)
theorem dX0_fault_42 : decode cX0_fault 42 = .ok (.iconst 1, 1) := dk_4 (dk_at dksX0_fault_1 19 rfl rfl)
theorem dX0_fault_43 : decode cX0_fault 43 = .ok (.if_icmp .ne 10, 3) := dk_160 0 10 (dk_at dksX0_fault_1 20 rfl rfl)
theorem dX0_fault_46 : decode cX0_fault 46 = .ok (.aload_n 2, 1) := dk_44 (dk_at dksX0_fault_1 23 rfl rfl)
theorem dX0_fault_47 : decode cX0_fault 47 = .ok (.invokevirtual 288, 3) := dk_182 1 32 (dk_at dksX0_fault_2 0 rfl rfl)
theorem dX0_fault_50 : decode cX0_fault 50 = .ok (.goto 7, 3) := dk_167 0 7 (dk_at dksX0_fault_2 3 rfl rfl)
theorem dX0_fault_53 : decode cX0_fault 53 = .ok (.aload_n 2, 1) := dk_44 (dk_at dksX0_fault_2 6 rfl rfl)
theorem dX0_fault_54 : decode cX0_fault 54 = .ok (.invokevirtual 291, 3) := dk_182 1 35 (dk_at dksX0_fault_2 7 rfl rfl)
theorem dX0_fault_57 : decode cX0_fault 57 = .ok (.ireturn, 1) := dk_172 (dk_at dksX0_fault_2 10 rfl rfl)
abbrev cX0_play : ByteArray := prog_1_method_40_code
def yX0_play : MethodName := ⟨RX0, "play", "()I"⟩
def dkwX0_play_1 : List UInt8 := [182, 0, 113, 172, 77, 18, 156, 172]
abbrev dktX0_play_1 : List UInt8 := dkwX0_play_1 ++ []
def dkwX0_play_0 : List UInt8 := [187, 1, 19, 89, 42, 183, 1, 21, 76, 43, 182, 1, 24, 42, 43, 180, 1, 37, 43, 180, 1, 40]
abbrev dktX0_play_0 : List UInt8 := dkwX0_play_0 ++ dktX0_play_1
theorem dksX0_play_0 : cX0_play.data.toList.drop 0 = dktX0_play_0 := by decide +kernel
theorem dksX0_play_1 : cX0_play.data.toList.drop 22 = dktX0_play_1 := dk_seg dksX0_play_0 22 rfl rfl
theorem dX0_play_0 : decode cX0_play 0 = .ok (.new 275, 3) := dk_187 1 19 (dk_at dksX0_play_0 0 rfl rfl)
theorem dX0_play_3 : decode cX0_play 3 = .ok (.dup, 1) := dk_89 (dk_at dksX0_play_0 3 rfl rfl)
theorem dX0_play_4 : decode cX0_play 4 = .ok (.aload_n 0, 1) := dk_42 (dk_at dksX0_play_0 4 rfl rfl)
theorem dX0_play_5 : decode cX0_play 5 = .ok (.invokespecial 277, 3) := dk_183 1 21 (dk_at dksX0_play_0 5 rfl rfl)
theorem dX0_play_8 : decode cX0_play 8 = .ok (.astore_n 1, 1) := dk_76 (dk_at dksX0_play_0 8 rfl rfl)
theorem dX0_play_9 : decode cX0_play 9 = .ok (.aload_n 1, 1) := dk_43 (dk_at dksX0_play_0 9 rfl rfl)
theorem dX0_play_10 : decode cX0_play 10 = .ok (.invokevirtual 280, 3) := dk_182 1 24 (dk_at dksX0_play_0 10 rfl rfl)
theorem dX0_play_13 : decode cX0_play 13 = .ok (.aload_n 0, 1) := dk_42 (dk_at dksX0_play_0 13 rfl rfl)
theorem dX0_play_14 : decode cX0_play 14 = .ok (.aload_n 1, 1) := dk_43 (dk_at dksX0_play_0 14 rfl rfl)
theorem dX0_play_15 : decode cX0_play 15 = .ok (.getfield 293, 3) := dk_180 1 37 (dk_at dksX0_play_0 15 rfl rfl)
theorem dX0_play_18 : decode cX0_play 18 = .ok (.aload_n 1, 1) := dk_43 (dk_at dksX0_play_0 18 rfl rfl)
theorem dX0_play_19 : decode cX0_play 19 = .ok (.getfield 296, 3) := dk_180 1 40 (dk_at dksX0_play_0 19 rfl rfl)
theorem dX0_play_22 : decode cX0_play 22 = .ok (.invokevirtual 113, 3) := dk_182 0 113 (dk_at dksX0_play_1 0 rfl rfl)
theorem dX0_play_25 : decode cX0_play 25 = .ok (.ireturn, 1) := dk_172 (dk_at dksX0_play_1 3 rfl rfl)
theorem dX0_play_26 : decode cX0_play 26 = .ok (.astore_n 2, 1) := dk_77 (dk_at dksX0_play_1 4 rfl rfl)
theorem dX0_play_27 : decode cX0_play 27 = .ok (.ldc 156, 2) := dk_18 156 (dk_at dksX0_play_1 5 rfl rfl)
theorem dX0_play_29 : decode cX0_play 29 = .ok (.ireturn, 1) := dk_172 (dk_at dksX0_play_1 7 rfl rfl)
theorem q54 : (Jvm.Cond.initialized "FencedStandbys") ∈ lw_all := lw_g (lw_at lw_m1 1 rfl) rfl
theorem q87 : (Jvm.Cond.instantiable "FencedStandbys" (3 : Nat)) ∈ lw_all := lw_g (lw_at lw_m1 34 rfl) rfl
theorem q89 : (Jvm.Cond.instanceMethod ({ cls := "FencedStandbys", name := "<init>", desc := "()V" } : Jvm.MethodName)) ∈ lw_all := lw_g (lw_at lw_m1 36 rfl) rfl
theorem q90 : (Jvm.Cond.code ({ cls := "FencedStandbys", name := "<init>", desc := "()V" } : Jvm.MethodName) prog_1_method_2_code (1 : Nat) (Option.none : Option Jvm.ClassFile.FieldType)) ∈ lw_all := lw_g (lw_at lw_m1 37 rfl) rfl
theorem q91 : (Jvm.Cond.methodLink "FencedStandbys" (1 : Nat) ({ cls := "java/lang/Object", name := "<init>", desc := "()V" } : Jvm.MethodName)) ∈ lw_all := lw_g (lw_at lw_m1 38 rfl) rfl
theorem q94 : (Jvm.Cond.classLink "FencedStandbys" (7 : Nat) "FencedStandbys$Store") ∈ lw_all := lw_g (lw_at lw_m1 41 rfl) rfl
theorem q96 : (Jvm.Cond.methodLink "FencedStandbys" (9 : Nat) ({ cls := "FencedStandbys$Store", name := "<init>", desc := "()V" } : Jvm.MethodName)) ∈ lw_all := lw_g (lw_at lw_m1 43 rfl) rfl
theorem q173 : (Jvm.Cond.fieldLinkNest "FencedStandbys" (199 : Nat) "FencedStandbys$Standby" "received" "I" "FencedStandbys") ∈ lw_tbl := lw_at lw_m1 120 rfl
theorem q176 : (Jvm.Cond.fieldLinkNest "FencedStandbys" (150 : Nat) "FencedStandbys$Standby" "applied" "I" "FencedStandbys") ∈ lw_tbl := lw_at lw_m1 123 rfl
theorem q179 : (Jvm.Cond.fieldLinkNest "FencedStandbys" (202 : Nat) "FencedStandbys$Standby" "gaps" "Ljava/util/BitSet;" "FencedStandbys") ∈ lw_tbl := lw_at lw_m1 126 rfl
theorem q182 : (Jvm.Cond.fieldLinkNest "FencedStandbys" (214 : Nat) "FencedStandbys$Standby" "isAstray" "Z" "FencedStandbys") ∈ lw_tbl := lw_at lw_m1 129 rfl
theorem q193 : (Jvm.Cond.fieldLinkNest "FencedStandbys" (131 : Nat) "FencedStandbys$Store" "log" "LFencedStandbys$Journal;" "FencedStandbys") ∈ lw_tbl := lw_at lw_m1 140 rfl
theorem q195 : (Jvm.Cond.fieldLinkNest "FencedStandbys" (162 : Nat) "FencedStandbys$Store" "slots" "[I" "FencedStandbys") ∈ lw_tbl := lw_at lw_m1 142 rfl
theorem q197 : (Jvm.Cond.fieldLinkNest "FencedStandbys" (141 : Nat) "FencedStandbys$Store" "standbys" "[LFencedStandbys$Standby;" "FencedStandbys") ∈ lw_tbl := lw_at lw_m1 144 rfl
theorem q199 : (Jvm.Cond.fieldLinkNest "FencedStandbys" (228 : Nat) "FencedStandbys$Store" "settings" "[I" "FencedStandbys") ∈ lw_tbl := lw_at lw_m1 146 rfl
theorem q201 : (Jvm.Cond.fieldLinkNest "FencedStandbys" (190 : Nat) "FencedStandbys$Store" "tick" "I" "FencedStandbys") ∈ lw_tbl := lw_at lw_m1 148 rfl
theorem q203 : (Jvm.Cond.fieldLinkNest "FencedStandbys" (238 : Nat) "FencedStandbys$Store" "timeline" "I" "FencedStandbys") ∈ lw_tbl := lw_at lw_m1 150 rfl
theorem q205 : (Jvm.Cond.fieldLinkNest "FencedStandbys" (241 : Nat) "FencedStandbys$Store" "transactions" "I" "FencedStandbys") ∈ lw_tbl := lw_at lw_m1 152 rfl
theorem q207 : (Jvm.Cond.fieldLinkNest "FencedStandbys" (244 : Nat) "FencedStandbys$Store" "lostCommits" "I" "FencedStandbys") ∈ lw_tbl := lw_at lw_m1 154 rfl
theorem q209 : (Jvm.Cond.fieldLinkNest "FencedStandbys" (247 : Nat) "FencedStandbys$Store" "lostRecords" "I" "FencedStandbys") ∈ lw_tbl := lw_at lw_m1 156 rfl
theorem q211 : (Jvm.Cond.fieldLinkNest "FencedStandbys" (250 : Nat) "FencedStandbys$Store" "applied" "I" "FencedStandbys") ∈ lw_tbl := lw_at lw_m1 158 rfl
theorem q233 : (Jvm.Cond.classLink "FencedStandbys" (16 : Nat) "java/util/ArrayDeque") ∈ lw_all := lw_g (lw_at lw_m1 180 rfl) rfl
theorem q235 : (Jvm.Cond.methodLink "FencedStandbys" (18 : Nat) ({ cls := "java/util/ArrayDeque", name := "<init>", desc := "()V" } : Jvm.MethodName)) ∈ lw_all := lw_g (lw_at lw_m1 182 rfl) rfl
theorem q251 : (Jvm.Cond.classLink "FencedStandbys" (23 : Nat) "java/lang/StringBuilder") ∈ lw_all := lw_g (lw_at lw_m1 198 rfl) rfl
theorem q253 : (Jvm.Cond.methodLink "FencedStandbys" (25 : Nat) ({ cls := "java/lang/StringBuilder", name := "<init>", desc := "()V" } : Jvm.MethodName)) ∈ lw_all := lw_g (lw_at lw_m1 200 rfl) rfl
theorem q284 : (Jvm.Cond.fieldLink "FencedStandbys" (10 : Nat) "FencedStandbys" "store" "LFencedStandbys$Store;") ∈ lw_all := lw_g (lw_at lw_m1 231 rfl) rfl
theorem q285 : (Jvm.Cond.fieldLink "FencedStandbys" (19 : Nat) "FencedStandbys" "history" "Ljava/util/ArrayDeque;") ∈ lw_all := lw_g (lw_at lw_m1 232 rfl) rfl
theorem q287 : (Jvm.Cond.fieldLink "FencedStandbys" (26 : Nat) "FencedStandbys" "text" "Ljava/lang/StringBuilder;") ∈ lw_all := lw_g (lw_at lw_m1 234 rfl) rfl
theorem q288 : (Jvm.Cond.lays "FencedStandbys" "FencedStandbys" "store" "LFencedStandbys$Store;") ∈ lw_all := lw_g (lw_at lw_m1 235 rfl) rfl
theorem q289 : (Jvm.Cond.soleField "FencedStandbys" "store") ∈ lw_all := lw_g (lw_at lw_m1 236 rfl) rfl
theorem q290 : (Jvm.Cond.laysFinal "FencedStandbys" "FencedStandbys" "history" "Ljava/util/ArrayDeque;") ∈ lw_all := lw_g (lw_at lw_m1 237 rfl) rfl
theorem q291 : (Jvm.Cond.soleField "FencedStandbys" "history") ∈ lw_all := lw_g (lw_at lw_m1 238 rfl) rfl
theorem q292 : (Jvm.Cond.laysFinal "FencedStandbys" "FencedStandbys" "text" "Ljava/lang/StringBuilder;") ∈ lw_all := lw_g (lw_at lw_m1 239 rfl) rfl
theorem q293 : (Jvm.Cond.soleField "FencedStandbys" "text") ∈ lw_all := lw_g (lw_at lw_m2 0 rfl) rfl
theorem q294 : (Jvm.Cond.superclass "FencedStandbys" "java/lang/Object") ∈ lw_all := lw_g (lw_at lw_m2 1 rfl) rfl
theorem q296 : (Jvm.Cond.instanceMethod ({ cls := "FencedStandbys", name := "open", desc := "(I)I" } : Jvm.MethodName)) ∈ lw_all := lw_g (lw_at lw_m2 3 rfl) rfl
theorem q297 : (Jvm.Cond.selects "FencedStandbys" ({ cls := "FencedStandbys", name := "open", desc := "(I)I" } : Jvm.MethodName) ({ cls := "FencedStandbys", name := "open", desc := "(I)I" } : Jvm.MethodName)) ∈ lw_all := lw_g (lw_at lw_m2 4 rfl) rfl
theorem q298 : (Jvm.Cond.code ({ cls := "FencedStandbys", name := "open", desc := "(I)I" } : Jvm.MethodName) prog_1_method_9_code (2 : Nat) (Option.some Jvm.ClassFile.FieldType.int)) ∈ lw_all := lw_g (lw_at lw_m2 5 rfl) rfl
theorem q299 : (Jvm.Cond.methodLink "FencedStandbys" (121 : Nat) ({ cls := "FencedStandbys", name := "order", desc := "(C[I)I" } : Jvm.MethodName)) ∈ lw_all := lw_g (lw_at lw_m2 6 rfl) rfl
theorem q300 : (Jvm.Cond.privateMethod ({ cls := "FencedStandbys", name := "order", desc := "(C[I)I" } : Jvm.MethodName)) ∈ lw_tbl := lw_at lw_m2 7 rfl
theorem q301 : (Jvm.Cond.instanceMethod ({ cls := "FencedStandbys", name := "order", desc := "(C[I)I" } : Jvm.MethodName)) ∈ lw_all := lw_g (lw_at lw_m2 8 rfl) rfl
theorem q302 : (Jvm.Cond.codeWith ({ cls := "FencedStandbys", name := "order", desc := "(C[I)I" } : Jvm.MethodName) prog_1_method_8_code (5 : Nat) (Option.some Jvm.ClassFile.FieldType.int) [((12 : Nat), (23 : Nat), (24 : Nat), (74 : Nat))]) ∈ lw_all := lw_g (lw_at lw_m2 9 rfl) rfl
theorem q303 : (Jvm.Cond.classLink "FencedStandbys" (74 : Nat) "FencedStandbys$Refused") ∈ lw_all := lw_g (lw_at lw_m2 10 rfl) rfl
theorem q304 : (Jvm.Cond.methodLink "FencedStandbys" (106 : Nat) ({ cls := "FencedStandbys$Store", name := "<init>", desc := "(LFencedStandbys$Store;)V" } : Jvm.MethodName)) ∈ lw_all := lw_g (lw_at lw_m2 11 rfl) rfl
theorem q389 : (Jvm.Cond.selects "FencedStandbys" ({ cls := "java/lang/Object", name := "getClass", desc := "()Ljava/lang/Class;" } : Jvm.MethodName) ({ cls := "java/lang/Object", name := "getClass", desc := "()Ljava/lang/Class;" } : Jvm.MethodName)) ∈ lw_all := lw_g (lw_at lw_m2 96 rfl) rfl
theorem q453 : (Jvm.Cond.methodLink "FencedStandbys" (109 : Nat) ({ cls := "FencedStandbys", name := "done", desc := "(LFencedStandbys$Store;C[I)I" } : Jvm.MethodName)) ∈ lw_all := lw_g (lw_at lw_m2 160 rfl) rfl
theorem q454 : (Jvm.Cond.static ({ cls := "FencedStandbys", name := "done", desc := "(LFencedStandbys$Store;C[I)I" } : Jvm.MethodName)) ∈ lw_all := lw_g (lw_at lw_m2 161 rfl) rfl
theorem q455 : (Jvm.Cond.code ({ cls := "FencedStandbys", name := "done", desc := "(LFencedStandbys$Store;C[I)I" } : Jvm.MethodName) prog_1_method_7_code (4 : Nat) (Option.some Jvm.ClassFile.FieldType.int)) ∈ lw_all := lw_g (lw_at lw_m2 162 rfl) rfl
theorem q456 : (Jvm.Cond.constantLong "FencedStandbys" (50 : Nat) (99 : Int64)) ∈ lw_all := lw_g (lw_at lw_m2 163 rfl) rfl
theorem q457 : (Jvm.Cond.methodLink "FencedStandbys" (44 : Nat) ({ cls := "FencedStandbys", name := "isBetween", desc := "(JJJ)Z" } : Jvm.MethodName)) ∈ lw_all := lw_g (lw_at lw_m2 164 rfl) rfl
theorem q458 : (Jvm.Cond.static ({ cls := "FencedStandbys", name := "isBetween", desc := "(JJJ)Z" } : Jvm.MethodName)) ∈ lw_all := lw_g (lw_at lw_m2 165 rfl) rfl
theorem q459 : (Jvm.Cond.code ({ cls := "FencedStandbys", name := "isBetween", desc := "(JJJ)Z" } : Jvm.MethodName) prog_1_method_1_code (6 : Nat) (Option.some Jvm.ClassFile.FieldType.boolean)) ∈ lw_all := lw_g (lw_at lw_m2 166 rfl) rfl
theorem q460 : (Jvm.Cond.stringRef "FencedStandbys" (52 : Nat) "slrg") ∈ lw_tbl := lw_at lw_m2 167 rfl
theorem q461 : (Jvm.Cond.methodLink "FencedStandbys" (54 : Nat) ({ cls := "java/lang/String", name := "indexOf", desc := "(I)I" } : Jvm.MethodName)) ∈ lw_all := lw_g (lw_at lw_m2 168 rfl) rfl
theorem q542 : (Jvm.Cond.methodLink "FencedStandbys" (60 : Nat) ({ cls := "FencedStandbys", name := "isStandby", desc := "(I)Z" } : Jvm.MethodName)) ∈ lw_all := lw_g (lw_at lw_m3 9 rfl) rfl
theorem q543 : (Jvm.Cond.static ({ cls := "FencedStandbys", name := "isStandby", desc := "(I)Z" } : Jvm.MethodName)) ∈ lw_all := lw_g (lw_at lw_m3 10 rfl) rfl
theorem q544 : (Jvm.Cond.code ({ cls := "FencedStandbys", name := "isStandby", desc := "(I)Z" } : Jvm.MethodName) prog_1_method_6_code (1 : Nat) (Option.some Jvm.ClassFile.FieldType.boolean)) ∈ lw_all := lw_g (lw_at lw_m3 11 rfl) rfl
theorem q545 : (Jvm.Cond.methodLink "FencedStandbys" (64 : Nat) ({ cls := "FencedStandbys", name := "isSlot", desc := "(I)Z" } : Jvm.MethodName)) ∈ lw_all := lw_g (lw_at lw_m3 12 rfl) rfl
theorem q546 : (Jvm.Cond.static ({ cls := "FencedStandbys", name := "isSlot", desc := "(I)Z" } : Jvm.MethodName)) ∈ lw_all := lw_g (lw_at lw_m3 13 rfl) rfl
theorem q547 : (Jvm.Cond.code ({ cls := "FencedStandbys", name := "isSlot", desc := "(I)Z" } : Jvm.MethodName) prog_1_method_4_code (1 : Nat) (Option.some Jvm.ClassFile.FieldType.boolean)) ∈ lw_all := lw_g (lw_at lw_m3 14 rfl) rfl
theorem q548 : (Jvm.Cond.constantLong "FencedStandbys" (42 : Nat) (2 : Int64)) ∈ lw_all := lw_g (lw_at lw_m3 15 rfl) rfl
theorem q549 : (Jvm.Cond.methodLink "FencedStandbys" (67 : Nat) ({ cls := "FencedStandbys", name := "isKey", desc := "(I)Z" } : Jvm.MethodName)) ∈ lw_all := lw_g (lw_at lw_m3 16 rfl) rfl
theorem q550 : (Jvm.Cond.static ({ cls := "FencedStandbys", name := "isKey", desc := "(I)Z" } : Jvm.MethodName)) ∈ lw_all := lw_g (lw_at lw_m3 17 rfl) rfl
theorem q551 : (Jvm.Cond.code ({ cls := "FencedStandbys", name := "isKey", desc := "(I)Z" } : Jvm.MethodName) prog_1_method_5_code (1 : Nat) (Option.some Jvm.ClassFile.FieldType.boolean)) ∈ lw_all := lw_g (lw_at lw_m3 18 rfl) rfl
theorem q552 : (Jvm.Cond.constantLong "FencedStandbys" (48 : Nat) (23 : Int64)) ∈ lw_all := lw_g (lw_at lw_m3 19 rfl) rfl
theorem q553 : (Jvm.Cond.constantLong "FencedStandbys" (70 : Nat) (999 : Int64)) ∈ lw_all := lw_g (lw_at lw_m3 20 rfl) rfl
theorem q554 : (Jvm.Cond.constantLong "FencedStandbys" (72 : Nat) (20 : Int64)) ∈ lw_all := lw_g (lw_at lw_m3 21 rfl) rfl
theorem q592 : (Jvm.Cond.constant "FencedStandbys" (76 : Nat) (-1000001 : Int32)) ∈ lw_all := lw_g (lw_at lw_m3 59 rfl) rfl
theorem q593 : (Jvm.Cond.methodLink "FencedStandbys" (77 : Nat) ({ cls := "FencedStandbys$Refused", name := "<init>", desc := "(I)V" } : Jvm.MethodName)) ∈ lw_all := lw_g (lw_at lw_m3 60 rfl) rfl
theorem q605 : (Jvm.Cond.fieldLinkNest "FencedStandbys" (117 : Nat) "FencedStandbys$Refused" "code" "I" "FencedStandbys") ∈ lw_tbl := lw_at lw_m3 72 rfl
theorem q621 : (Jvm.Cond.methodLink "FencedStandbys" (80 : Nat) ({ cls := "FencedStandbys$Store", name := "opened", desc := "(I)I" } : Jvm.MethodName)) ∈ lw_all := lw_g (lw_at lw_m3 88 rfl) rfl
theorem q628 : (Jvm.Cond.methodLink "FencedStandbys" (83 : Nat) ({ cls := "FencedStandbys$Store", name := "puts", desc := "(III)I" } : Jvm.MethodName)) ∈ lw_all := lw_g (lw_at lw_m3 95 rfl) rfl
theorem q660 : (Jvm.Cond.fieldLinkNest "FencedStandbys" (193 : Nat) "FencedStandbys$Note" "tick" "I" "FencedStandbys") ∈ lw_tbl := lw_at lw_m3 127 rfl
theorem q676 : (Jvm.Cond.methodLink "FencedStandbys" (87 : Nat) ({ cls := "FencedStandbys$Store", name := "ends", desc := "(II)I" } : Jvm.MethodName)) ∈ lw_all := lw_g (lw_at lw_m3 143 rfl) rfl
theorem q680 : (Jvm.Cond.methodLink "FencedStandbys" (91 : Nat) ({ cls := "FencedStandbys$Store", name := "ships", desc := "(II)I" } : Jvm.MethodName)) ∈ lw_all := lw_g (lw_at lw_m3 147 rfl) rfl
theorem q689 : (Jvm.Cond.methodLink "FencedStandbys" (94 : Nat) ({ cls := "FencedStandbys$Store", name := "loses", desc := "(II)I" } : Jvm.MethodName)) ∈ lw_all := lw_g (lw_at lw_m3 156 rfl) rfl
theorem q715 : (Jvm.Cond.methodLink "FencedStandbys" (97 : Nat) ({ cls := "FencedStandbys$Store", name := "resends", desc := "(I)I" } : Jvm.MethodName)) ∈ lw_all := lw_g (lw_at lw_m3 182 rfl) rfl
theorem q723 : (Jvm.Cond.methodLink "FencedStandbys" (100 : Nat) ({ cls := "FencedStandbys$Store", name := "promotes", desc := "(I)I" } : Jvm.MethodName)) ∈ lw_all := lw_g (lw_at lw_m3 190 rfl) rfl
theorem q794 : (Jvm.Cond.methodLink "FencedStandbys" (103 : Nat) ({ cls := "FencedStandbys$Store", name := "passes", desc := "(I)I" } : Jvm.MethodName)) ∈ lw_all := lw_g (lw_at lw_m4 21 rfl) rfl
theorem q829 : (Jvm.Cond.methodLink "FencedStandbys" (113 : Nat) ({ cls := "FencedStandbys", name := "changed", desc := "(LFencedStandbys$Store;I)I" } : Jvm.MethodName)) ∈ lw_all := lw_g (lw_at lw_m4 56 rfl) rfl
theorem q830 : (Jvm.Cond.privateMethod ({ cls := "FencedStandbys", name := "changed", desc := "(LFencedStandbys$Store;I)I" } : Jvm.MethodName)) ∈ lw_tbl := lw_at lw_m4 57 rfl
theorem q831 : (Jvm.Cond.instanceMethod ({ cls := "FencedStandbys", name := "changed", desc := "(LFencedStandbys$Store;I)I" } : Jvm.MethodName)) ∈ lw_all := lw_g (lw_at lw_m4 58 rfl) rfl
theorem q832 : (Jvm.Cond.code ({ cls := "FencedStandbys", name := "changed", desc := "(LFencedStandbys$Store;I)I" } : Jvm.MethodName) prog_1_method_3_code (3 : Nat) (Option.some Jvm.ClassFile.FieldType.int)) ∈ lw_all := lw_g (lw_at lw_m4 59 rfl) rfl
theorem q833 : (Jvm.Cond.methodLink "FencedStandbys" (30 : Nat) ({ cls := "java/util/ArrayDeque", name := "addLast", desc := "(Ljava/lang/Object;)V" } : Jvm.MethodName)) ∈ lw_all := lw_g (lw_at lw_m4 60 rfl) rfl
theorem q852 : (Jvm.Cond.methodLink "FencedStandbys" (34 : Nat) ({ cls := "java/util/ArrayDeque", name := "size", desc := "()I" } : Jvm.MethodName)) ∈ lw_all := lw_g (lw_at lw_m4 79 rfl) rfl
theorem q859 : (Jvm.Cond.methodLink "FencedStandbys" (38 : Nat) ({ cls := "java/util/ArrayDeque", name := "removeFirst", desc := "()Ljava/lang/Object;" } : Jvm.MethodName)) ∈ lw_all := lw_g (lw_at lw_m4 86 rfl) rfl
theorem q871 : (Jvm.Cond.instanceMethod ({ cls := "FencedStandbys", name := "put", desc := "(III)I" } : Jvm.MethodName)) ∈ lw_all := lw_g (lw_at lw_m4 98 rfl) rfl
theorem q872 : (Jvm.Cond.selects "FencedStandbys" ({ cls := "FencedStandbys", name := "put", desc := "(III)I" } : Jvm.MethodName) ({ cls := "FencedStandbys", name := "put", desc := "(III)I" } : Jvm.MethodName)) ∈ lw_all := lw_g (lw_at lw_m4 99 rfl) rfl
theorem q873 : (Jvm.Cond.code ({ cls := "FencedStandbys", name := "put", desc := "(III)I" } : Jvm.MethodName) prog_1_method_10_code (4 : Nat) (Option.some Jvm.ClassFile.FieldType.int)) ∈ lw_all := lw_g (lw_at lw_m4 100 rfl) rfl
theorem q875 : (Jvm.Cond.instanceMethod ({ cls := "FencedStandbys", name := "commit", desc := "(I)I" } : Jvm.MethodName)) ∈ lw_all := lw_g (lw_at lw_m4 102 rfl) rfl
theorem q876 : (Jvm.Cond.selects "FencedStandbys" ({ cls := "FencedStandbys", name := "commit", desc := "(I)I" } : Jvm.MethodName) ({ cls := "FencedStandbys", name := "commit", desc := "(I)I" } : Jvm.MethodName)) ∈ lw_all := lw_g (lw_at lw_m4 103 rfl) rfl
theorem q877 : (Jvm.Cond.code ({ cls := "FencedStandbys", name := "commit", desc := "(I)I" } : Jvm.MethodName) prog_1_method_11_code (2 : Nat) (Option.some Jvm.ClassFile.FieldType.int)) ∈ lw_all := lw_g (lw_at lw_m4 104 rfl) rfl
theorem q879 : (Jvm.Cond.instanceMethod ({ cls := "FencedStandbys", name := "abort", desc := "(I)I" } : Jvm.MethodName)) ∈ lw_all := lw_g (lw_at lw_m4 106 rfl) rfl
theorem q880 : (Jvm.Cond.selects "FencedStandbys" ({ cls := "FencedStandbys", name := "abort", desc := "(I)I" } : Jvm.MethodName) ({ cls := "FencedStandbys", name := "abort", desc := "(I)I" } : Jvm.MethodName)) ∈ lw_all := lw_g (lw_at lw_m4 107 rfl) rfl
theorem q881 : (Jvm.Cond.code ({ cls := "FencedStandbys", name := "abort", desc := "(I)I" } : Jvm.MethodName) prog_1_method_12_code (2 : Nat) (Option.some Jvm.ClassFile.FieldType.int)) ∈ lw_all := lw_g (lw_at lw_m4 108 rfl) rfl
theorem q883 : (Jvm.Cond.instanceMethod ({ cls := "FencedStandbys", name := "ship", desc := "(II)I" } : Jvm.MethodName)) ∈ lw_all := lw_g (lw_at lw_m4 110 rfl) rfl
theorem q884 : (Jvm.Cond.selects "FencedStandbys" ({ cls := "FencedStandbys", name := "ship", desc := "(II)I" } : Jvm.MethodName) ({ cls := "FencedStandbys", name := "ship", desc := "(II)I" } : Jvm.MethodName)) ∈ lw_all := lw_g (lw_at lw_m4 111 rfl) rfl
theorem q885 : (Jvm.Cond.code ({ cls := "FencedStandbys", name := "ship", desc := "(II)I" } : Jvm.MethodName) prog_1_method_13_code (3 : Nat) (Option.some Jvm.ClassFile.FieldType.int)) ∈ lw_all := lw_g (lw_at lw_m4 112 rfl) rfl
theorem q887 : (Jvm.Cond.instanceMethod ({ cls := "FencedStandbys", name := "lose", desc := "(II)I" } : Jvm.MethodName)) ∈ lw_all := lw_g (lw_at lw_m4 114 rfl) rfl
theorem q888 : (Jvm.Cond.selects "FencedStandbys" ({ cls := "FencedStandbys", name := "lose", desc := "(II)I" } : Jvm.MethodName) ({ cls := "FencedStandbys", name := "lose", desc := "(II)I" } : Jvm.MethodName)) ∈ lw_all := lw_g (lw_at lw_m4 115 rfl) rfl
theorem q889 : (Jvm.Cond.code ({ cls := "FencedStandbys", name := "lose", desc := "(II)I" } : Jvm.MethodName) prog_1_method_14_code (3 : Nat) (Option.some Jvm.ClassFile.FieldType.int)) ∈ lw_all := lw_g (lw_at lw_m4 116 rfl) rfl
theorem q891 : (Jvm.Cond.instanceMethod ({ cls := "FencedStandbys", name := "resend", desc := "(I)I" } : Jvm.MethodName)) ∈ lw_all := lw_g (lw_at lw_m4 118 rfl) rfl
theorem q892 : (Jvm.Cond.selects "FencedStandbys" ({ cls := "FencedStandbys", name := "resend", desc := "(I)I" } : Jvm.MethodName) ({ cls := "FencedStandbys", name := "resend", desc := "(I)I" } : Jvm.MethodName)) ∈ lw_all := lw_g (lw_at lw_m4 119 rfl) rfl
theorem q893 : (Jvm.Cond.code ({ cls := "FencedStandbys", name := "resend", desc := "(I)I" } : Jvm.MethodName) prog_1_method_15_code (2 : Nat) (Option.some Jvm.ClassFile.FieldType.int)) ∈ lw_all := lw_g (lw_at lw_m4 120 rfl) rfl
theorem q895 : (Jvm.Cond.instanceMethod ({ cls := "FencedStandbys", name := "tick", desc := "(I)I" } : Jvm.MethodName)) ∈ lw_all := lw_g (lw_at lw_m4 122 rfl) rfl
theorem q896 : (Jvm.Cond.selects "FencedStandbys" ({ cls := "FencedStandbys", name := "tick", desc := "(I)I" } : Jvm.MethodName) ({ cls := "FencedStandbys", name := "tick", desc := "(I)I" } : Jvm.MethodName)) ∈ lw_all := lw_g (lw_at lw_m4 123 rfl) rfl
theorem q897 : (Jvm.Cond.code ({ cls := "FencedStandbys", name := "tick", desc := "(I)I" } : Jvm.MethodName) prog_1_method_16_code (2 : Nat) (Option.some Jvm.ClassFile.FieldType.int)) ∈ lw_all := lw_g (lw_at lw_m4 124 rfl) rfl
theorem q899 : (Jvm.Cond.instanceMethod ({ cls := "FencedStandbys", name := "promote", desc := "(I)I" } : Jvm.MethodName)) ∈ lw_all := lw_g (lw_at lw_m4 126 rfl) rfl
theorem q900 : (Jvm.Cond.selects "FencedStandbys" ({ cls := "FencedStandbys", name := "promote", desc := "(I)I" } : Jvm.MethodName) ({ cls := "FencedStandbys", name := "promote", desc := "(I)I" } : Jvm.MethodName)) ∈ lw_all := lw_g (lw_at lw_m4 127 rfl) rfl
theorem q901 : (Jvm.Cond.code ({ cls := "FencedStandbys", name := "promote", desc := "(I)I" } : Jvm.MethodName) prog_1_method_17_code (2 : Nat) (Option.some Jvm.ClassFile.FieldType.int)) ∈ lw_all := lw_g (lw_at lw_m4 128 rfl) rfl
theorem q903 : (Jvm.Cond.instanceMethod ({ cls := "FencedStandbys", name := "rebuild", desc := "(I)I" } : Jvm.MethodName)) ∈ lw_all := lw_g (lw_at lw_m4 130 rfl) rfl
theorem q904 : (Jvm.Cond.selects "FencedStandbys" ({ cls := "FencedStandbys", name := "rebuild", desc := "(I)I" } : Jvm.MethodName) ({ cls := "FencedStandbys", name := "rebuild", desc := "(I)I" } : Jvm.MethodName)) ∈ lw_all := lw_g (lw_at lw_m4 131 rfl) rfl
theorem q905 : (Jvm.Cond.code ({ cls := "FencedStandbys", name := "rebuild", desc := "(I)I" } : Jvm.MethodName) prog_1_method_18_code (3 : Nat) (Option.some Jvm.ClassFile.FieldType.int)) ∈ lw_all := lw_g (lw_at lw_m4 132 rfl) rfl
theorem q906 : (Jvm.Cond.methodLink "FencedStandbys" (125 : Nat) ({ cls := "FencedStandbys$Store", name := "rebuilds", desc := "(I)I" } : Jvm.MethodName)) ∈ lw_all := lw_g (lw_at lw_m4 133 rfl) rfl
theorem q911 : (Jvm.Cond.instanceMethod ({ cls := "FencedStandbys", name := "set", desc := "(II)I" } : Jvm.MethodName)) ∈ lw_all := lw_g (lw_at lw_m4 138 rfl) rfl
theorem q912 : (Jvm.Cond.selects "FencedStandbys" ({ cls := "FencedStandbys", name := "set", desc := "(II)I" } : Jvm.MethodName) ({ cls := "FencedStandbys", name := "set", desc := "(II)I" } : Jvm.MethodName)) ∈ lw_all := lw_g (lw_at lw_m4 139 rfl) rfl
theorem q913 : (Jvm.Cond.code ({ cls := "FencedStandbys", name := "set", desc := "(II)I" } : Jvm.MethodName) prog_1_method_19_code (4 : Nat) (Option.some Jvm.ClassFile.FieldType.int)) ∈ lw_all := lw_g (lw_at lw_m4 140 rfl) rfl
theorem q914 : (Jvm.Cond.methodLink "FencedStandbys" (128 : Nat) ({ cls := "FencedStandbys$Store", name := "setTo", desc := "(II)I" } : Jvm.MethodName)) ∈ lw_all := lw_g (lw_at lw_m4 141 rfl) rfl
theorem q919 : (Jvm.Cond.instanceMethod ({ cls := "FencedStandbys", name := "read", desc := "(III)I" } : Jvm.MethodName)) ∈ lw_all := lw_g (lw_at lw_m4 146 rfl) rfl
theorem q920 : (Jvm.Cond.selects "FencedStandbys" ({ cls := "FencedStandbys", name := "read", desc := "(III)I" } : Jvm.MethodName) ({ cls := "FencedStandbys", name := "read", desc := "(III)I" } : Jvm.MethodName)) ∈ lw_all := lw_g (lw_at lw_m4 147 rfl) rfl
theorem q921 : (Jvm.Cond.code ({ cls := "FencedStandbys", name := "read", desc := "(III)I" } : Jvm.MethodName) prog_1_method_21_code (5 : Nat) (Option.some Jvm.ClassFile.FieldType.int)) ∈ lw_all := lw_g (lw_at lw_m4 148 rfl) rfl
theorem q922 : (Jvm.Cond.methodLink "FencedStandbys" (138 : Nat) ({ cls := "FencedStandbys", name := "isFence", desc := "(I)Z" } : Jvm.MethodName)) ∈ lw_all := lw_g (lw_at lw_m4 149 rfl) rfl
theorem q923 : (Jvm.Cond.privateMethod ({ cls := "FencedStandbys", name := "isFence", desc := "(I)Z" } : Jvm.MethodName)) ∈ lw_tbl := lw_at lw_m4 150 rfl
theorem q924 : (Jvm.Cond.instanceMethod ({ cls := "FencedStandbys", name := "isFence", desc := "(I)Z" } : Jvm.MethodName)) ∈ lw_all := lw_g (lw_at lw_m4 151 rfl) rfl
theorem q925 : (Jvm.Cond.code ({ cls := "FencedStandbys", name := "isFence", desc := "(I)Z" } : Jvm.MethodName) prog_1_method_20_code (2 : Nat) (Option.some Jvm.ClassFile.FieldType.boolean)) ∈ lw_all := lw_g (lw_at lw_m4 152 rfl) rfl
theorem q926 : (Jvm.Cond.methodLink "FencedStandbys" (135 : Nat) ({ cls := "FencedStandbys$Journal", name := "size", desc := "()I" } : Jvm.MethodName)) ∈ lw_all := lw_g (lw_at lw_m4 153 rfl) rfl
theorem q927 : (Jvm.Cond.methodLink "FencedStandbys" (145 : Nat) ({ cls := "FencedStandbys$Standby", name := "canServe", desc := "(I)Z" } : Jvm.MethodName)) ∈ lw_all := lw_g (lw_at lw_m4 154 rfl) rfl
theorem q931 : (Jvm.Cond.methodLink "FencedStandbys" (153 : Nat) ({ cls := "FencedStandbys$Store", name := "value", desc := "(II)I" } : Jvm.MethodName)) ∈ lw_all := lw_g (lw_at lw_m4 158 rfl) rfl
theorem q947 : (Jvm.Cond.constant "FencedStandbys" (156 : Nat) (-1000002 : Int32)) ∈ lw_all := lw_g (lw_at lw_m4 174 rfl) rfl
theorem q949 : (Jvm.Cond.instanceMethod ({ cls := "FencedStandbys", name := "primary", desc := "(II)I" } : Jvm.MethodName)) ∈ lw_all := lw_g (lw_at lw_m4 176 rfl) rfl
theorem q950 : (Jvm.Cond.selects "FencedStandbys" ({ cls := "FencedStandbys", name := "primary", desc := "(II)I" } : Jvm.MethodName) ({ cls := "FencedStandbys", name := "primary", desc := "(II)I" } : Jvm.MethodName)) ∈ lw_all := lw_g (lw_at lw_m4 177 rfl) rfl
theorem q951 : (Jvm.Cond.code ({ cls := "FencedStandbys", name := "primary", desc := "(II)I" } : Jvm.MethodName) prog_1_method_22_code (3 : Nat) (Option.some Jvm.ClassFile.FieldType.int)) ∈ lw_all := lw_g (lw_at lw_m4 178 rfl) rfl
theorem q952 : (Jvm.Cond.methodLink "FencedStandbys" (157 : Nat) ({ cls := "java/lang/Math", name := "max", desc := "(II)I" } : Jvm.MethodName)) ∈ lw_all := lw_g (lw_at lw_m4 179 rfl) rfl
theorem q953 : (Jvm.Cond.methodLink "FencedStandbys" (166 : Nat) ({ cls := "FencedStandbys$Store", name := "seenBy", desc := "(II)I" } : Jvm.MethodName)) ∈ lw_all := lw_g (lw_at lw_m4 180 rfl) rfl
theorem q959 : (Jvm.Cond.instanceMethod ({ cls := "FencedStandbys", name := "serves", desc := "(I)I" } : Jvm.MethodName)) ∈ lw_all := lw_g (lw_at lw_m4 186 rfl) rfl
theorem q960 : (Jvm.Cond.selects "FencedStandbys" ({ cls := "FencedStandbys", name := "serves", desc := "(I)I" } : Jvm.MethodName) ({ cls := "FencedStandbys", name := "serves", desc := "(I)I" } : Jvm.MethodName)) ∈ lw_all := lw_g (lw_at lw_m4 187 rfl) rfl
theorem q961 : (Jvm.Cond.code ({ cls := "FencedStandbys", name := "serves", desc := "(I)I" } : Jvm.MethodName) prog_1_method_23_code (5 : Nat) (Option.some Jvm.ClassFile.FieldType.int)) ∈ lw_all := lw_g (lw_at lw_m4 188 rfl) rfl
theorem q962 : (Jvm.Cond.constant "FencedStandbys" (169 : Nat) (-1000004 : Int32)) ∈ lw_all := lw_g (lw_at lw_m4 189 rfl) rfl
theorem q964 : (Jvm.Cond.instanceMethod ({ cls := "FencedStandbys", name := "fence", desc := "(I)I" } : Jvm.MethodName)) ∈ lw_all := lw_g (lw_at lw_m4 191 rfl) rfl
theorem q965 : (Jvm.Cond.selects "FencedStandbys" ({ cls := "FencedStandbys", name := "fence", desc := "(I)I" } : Jvm.MethodName) ({ cls := "FencedStandbys", name := "fence", desc := "(I)I" } : Jvm.MethodName)) ∈ lw_all := lw_g (lw_at lw_m4 192 rfl) rfl
theorem q966 : (Jvm.Cond.code ({ cls := "FencedStandbys", name := "fence", desc := "(I)I" } : Jvm.MethodName) prog_1_method_24_code (3 : Nat) (Option.some Jvm.ClassFile.FieldType.int)) ∈ lw_all := lw_g (lw_at lw_m4 193 rfl) rfl
theorem q967 : (Jvm.Cond.methodLink "FencedStandbys" (170 : Nat) ({ cls := "FencedStandbys$Store", name := "lastCommit", desc := "(II)I" } : Jvm.MethodName)) ∈ lw_all := lw_g (lw_at lw_m4 194 rfl) rfl
theorem q969 : (Jvm.Cond.instanceMethod ({ cls := "FencedStandbys", name := "recordOf", desc := "(II)I" } : Jvm.MethodName)) ∈ lw_all := lw_g (lw_at lw_m4 196 rfl) rfl
theorem q970 : (Jvm.Cond.selects "FencedStandbys" ({ cls := "FencedStandbys", name := "recordOf", desc := "(II)I" } : Jvm.MethodName) ({ cls := "FencedStandbys", name := "recordOf", desc := "(II)I" } : Jvm.MethodName)) ∈ lw_all := lw_g (lw_at lw_m4 197 rfl) rfl
theorem q971 : (Jvm.Cond.code ({ cls := "FencedStandbys", name := "recordOf", desc := "(II)I" } : Jvm.MethodName) prog_1_method_26_code (3 : Nat) (Option.some Jvm.ClassFile.FieldType.int)) ∈ lw_all := lw_g (lw_at lw_m4 198 rfl) rfl
theorem q972 : (Jvm.Cond.constantLong "FencedStandbys" (173 : Nat) (4 : Int64)) ∈ lw_all := lw_g (lw_at lw_m4 199 rfl) rfl
theorem q973 : (Jvm.Cond.methodLink "FencedStandbys" (175 : Nat) ({ cls := "FencedStandbys$Journal", name := "at", desc := "(I)LFencedStandbys$Written;" } : Jvm.MethodName)) ∈ lw_all := lw_g (lw_at lw_m4 200 rfl) rfl
theorem q974 : (Jvm.Cond.classLink "FencedStandbys" (179 : Nat) "FencedStandbys$Note") ∈ lw_all := lw_g (lw_at lw_m4 201 rfl) rfl
theorem q975 : (Jvm.Cond.methodLink "FencedStandbys" (181 : Nat) ({ cls := "FencedStandbys$Note", name := "told", desc := "(I)I" } : Jvm.MethodName)) ∈ lw_all := lw_g (lw_at lw_m4 202 rfl) rfl
theorem q979 : (Jvm.Cond.methodLink "FencedStandbys" (184 : Nat) ({ cls := "FencedStandbys", name := "orNotFound", desc := "(I)I" } : Jvm.MethodName)) ∈ lw_all := lw_g (lw_at lw_m4 206 rfl) rfl
theorem q980 : (Jvm.Cond.static ({ cls := "FencedStandbys", name := "orNotFound", desc := "(I)I" } : Jvm.MethodName)) ∈ lw_all := lw_g (lw_at lw_m4 207 rfl) rfl
theorem q981 : (Jvm.Cond.code ({ cls := "FencedStandbys", name := "orNotFound", desc := "(I)I" } : Jvm.MethodName) prog_1_method_25_code (1 : Nat) (Option.some Jvm.ClassFile.FieldType.int)) ∈ lw_all := lw_g (lw_at lw_m4 208 rfl) rfl
theorem q983 : (Jvm.Cond.instanceMethod ({ cls := "FencedStandbys", name := "standbyOf", desc := "(II)I" } : Jvm.MethodName)) ∈ lw_all := lw_g (lw_at lw_m4 210 rfl) rfl
theorem q984 : (Jvm.Cond.selects "FencedStandbys" ({ cls := "FencedStandbys", name := "standbyOf", desc := "(II)I" } : Jvm.MethodName) ({ cls := "FencedStandbys", name := "standbyOf", desc := "(II)I" } : Jvm.MethodName)) ∈ lw_all := lw_g (lw_at lw_m4 211 rfl) rfl
theorem q985 : (Jvm.Cond.code ({ cls := "FencedStandbys", name := "standbyOf", desc := "(II)I" } : Jvm.MethodName) prog_1_method_28_code (4 : Nat) (Option.some Jvm.ClassFile.FieldType.int)) ∈ lw_all := lw_g (lw_at lw_m4 212 rfl) rfl
theorem q986 : (Jvm.Cond.constantLong "FencedStandbys" (197 : Nat) (8 : Int64)) ∈ lw_all := lw_g (lw_at lw_m4 213 rfl) rfl
theorem q987 : (Jvm.Cond.methodLink "FencedStandbys" (206 : Nat) ({ cls := "java/util/BitSet", name := "cardinality", desc := "()I" } : Jvm.MethodName)) ∈ lw_all := lw_g (lw_at lw_m4 214 rfl) rfl
theorem q988 : (Jvm.Cond.methodLink "FencedStandbys" (211 : Nat) ({ cls := "java/util/BitSet", name := "nextSetBit", desc := "(I)I" } : Jvm.MethodName)) ∈ lw_all := lw_g (lw_at lw_m4 215 rfl) rfl
theorem q998 : (Jvm.Cond.methodLink "FencedStandbys" (218 : Nat) ({ cls := "FencedStandbys", name := "behind", desc := "(LFencedStandbys$Standby;I)I" } : Jvm.MethodName)) ∈ lw_all := lw_g (lw_at lw_m4 225 rfl) rfl
theorem q999 : (Jvm.Cond.privateMethod ({ cls := "FencedStandbys", name := "behind", desc := "(LFencedStandbys$Standby;I)I" } : Jvm.MethodName)) ∈ lw_tbl := lw_at lw_m4 226 rfl
theorem q1000 : (Jvm.Cond.instanceMethod ({ cls := "FencedStandbys", name := "behind", desc := "(LFencedStandbys$Standby;I)I" } : Jvm.MethodName)) ∈ lw_all := lw_g (lw_at lw_m4 227 rfl) rfl
theorem q1001 : (Jvm.Cond.code ({ cls := "FencedStandbys", name := "behind", desc := "(LFencedStandbys$Standby;I)I" } : Jvm.MethodName) prog_1_method_27_code (3 : Nat) (Option.some Jvm.ClassFile.FieldType.int)) ∈ lw_all := lw_g (lw_at lw_m4 228 rfl) rfl
theorem q1002 : (Jvm.Cond.methodLink "FencedStandbys" (187 : Nat) ({ cls := "FencedStandbys$Store", name := "commitsBehind", desc := "(I)I" } : Jvm.MethodName)) ∈ lw_all := lw_g (lw_at lw_m4 229 rfl) rfl
theorem q1003 : (Jvm.Cond.methodLink "FencedStandbys" (194 : Nat) ({ cls := "FencedStandbys$Store", name := "unlikeKeys", desc := "(I)I" } : Jvm.MethodName)) ∈ lw_all := lw_g (lw_at lw_m4 230 rfl) rfl
theorem q1008 : (Jvm.Cond.instanceMethod ({ cls := "FencedStandbys", name := "slotOf", desc := "(II)I" } : Jvm.MethodName)) ∈ lw_all := lw_g (lw_at lw_m4 235 rfl) rfl
theorem q1009 : (Jvm.Cond.selects "FencedStandbys" ({ cls := "FencedStandbys", name := "slotOf", desc := "(II)I" } : Jvm.MethodName) ({ cls := "FencedStandbys", name := "slotOf", desc := "(II)I" } : Jvm.MethodName)) ∈ lw_all := lw_g (lw_at lw_m4 236 rfl) rfl
theorem q1010 : (Jvm.Cond.code ({ cls := "FencedStandbys", name := "slotOf", desc := "(II)I" } : Jvm.MethodName) prog_1_method_29_code (3 : Nat) (Option.some Jvm.ClassFile.FieldType.int)) ∈ lw_all := lw_g (lw_at lw_m4 237 rfl) rfl
theorem q1011 : (Jvm.Cond.methodLink "FencedStandbys" (222 : Nat) ({ cls := "FencedStandbys$Store", name := "puts", desc := "(I)I" } : Jvm.MethodName)) ∈ lw_all := lw_g (lw_at lw_m4 238 rfl) rfl
theorem q1016 : (Jvm.Cond.instanceMethod ({ cls := "FencedStandbys", name := "waits", desc := "(II)I" } : Jvm.MethodName)) ∈ lw_all := lw_g (lw_at lw_m5 3 rfl) rfl
theorem q1017 : (Jvm.Cond.selects "FencedStandbys" ({ cls := "FencedStandbys", name := "waits", desc := "(II)I" } : Jvm.MethodName) ({ cls := "FencedStandbys", name := "waits", desc := "(II)I" } : Jvm.MethodName)) ∈ lw_all := lw_g (lw_at lw_m5 4 rfl) rfl
theorem q1018 : (Jvm.Cond.code ({ cls := "FencedStandbys", name := "waits", desc := "(II)I" } : Jvm.MethodName) prog_1_method_31_code (3 : Nat) (Option.some Jvm.ClassFile.FieldType.int)) ∈ lw_all := lw_g (lw_at lw_m5 5 rfl) rfl
theorem q1019 : (Jvm.Cond.methodLink "FencedStandbys" (224 : Nat) ({ cls := "FencedStandbys", name := "ticksTo", desc := "(LFencedStandbys$Store;III)I" } : Jvm.MethodName)) ∈ lw_all := lw_g (lw_at lw_m5 6 rfl) rfl
theorem q1020 : (Jvm.Cond.static ({ cls := "FencedStandbys", name := "ticksTo", desc := "(LFencedStandbys$Store;III)I" } : Jvm.MethodName)) ∈ lw_all := lw_g (lw_at lw_m5 7 rfl) rfl
theorem q1021 : (Jvm.Cond.code ({ cls := "FencedStandbys", name := "ticksTo", desc := "(LFencedStandbys$Store;III)I" } : Jvm.MethodName) prog_1_method_30_code (6 : Nat) (Option.some Jvm.ClassFile.FieldType.int)) ∈ lw_all := lw_g (lw_at lw_m5 8 rfl) rfl
theorem q1023 : (Jvm.Cond.instanceMethod ({ cls := "FencedStandbys", name := "wouldLose", desc := "(I)I" } : Jvm.MethodName)) ∈ lw_all := lw_g (lw_at lw_m5 10 rfl) rfl
theorem q1024 : (Jvm.Cond.selects "FencedStandbys" ({ cls := "FencedStandbys", name := "wouldLose", desc := "(I)I" } : Jvm.MethodName) ({ cls := "FencedStandbys", name := "wouldLose", desc := "(I)I" } : Jvm.MethodName)) ∈ lw_all := lw_g (lw_at lw_m5 11 rfl) rfl
theorem q1025 : (Jvm.Cond.code ({ cls := "FencedStandbys", name := "wouldLose", desc := "(I)I" } : Jvm.MethodName) prog_1_method_32_code (3 : Nat) (Option.some Jvm.ClassFile.FieldType.int)) ∈ lw_all := lw_g (lw_at lw_m5 12 rfl) rfl
theorem q1027 : (Jvm.Cond.instanceMethod ({ cls := "FencedStandbys", name := "rateFor", desc := "(II)I" } : Jvm.MethodName)) ∈ lw_all := lw_g (lw_at lw_m5 14 rfl) rfl
theorem q1028 : (Jvm.Cond.selects "FencedStandbys" ({ cls := "FencedStandbys", name := "rateFor", desc := "(II)I" } : Jvm.MethodName) ({ cls := "FencedStandbys", name := "rateFor", desc := "(II)I" } : Jvm.MethodName)) ∈ lw_all := lw_g (lw_at lw_m5 15 rfl) rfl
theorem q1029 : (Jvm.Cond.code ({ cls := "FencedStandbys", name := "rateFor", desc := "(II)I" } : Jvm.MethodName) prog_1_method_34_code (4 : Nat) (Option.some Jvm.ClassFile.FieldType.int)) ∈ lw_all := lw_g (lw_at lw_m5 16 rfl) rfl
theorem q1030 : (Jvm.Cond.methodLink "FencedStandbys" (234 : Nat) ({ cls := "FencedStandbys", name := "wouldDo", desc := "(III)Z" } : Jvm.MethodName)) ∈ lw_all := lw_g (lw_at lw_m5 17 rfl) rfl
theorem q1031 : (Jvm.Cond.privateMethod ({ cls := "FencedStandbys", name := "wouldDo", desc := "(III)Z" } : Jvm.MethodName)) ∈ lw_tbl := lw_at lw_m5 18 rfl
theorem q1032 : (Jvm.Cond.instanceMethod ({ cls := "FencedStandbys", name := "wouldDo", desc := "(III)Z" } : Jvm.MethodName)) ∈ lw_all := lw_g (lw_at lw_m5 19 rfl) rfl
theorem q1033 : (Jvm.Cond.code ({ cls := "FencedStandbys", name := "wouldDo", desc := "(III)Z" } : Jvm.MethodName) prog_1_method_33_code (5 : Nat) (Option.some Jvm.ClassFile.FieldType.boolean)) ∈ lw_all := lw_g (lw_at lw_m5 20 rfl) rfl
theorem q1034 : (Jvm.Cond.methodLink "FencedStandbys" (231 : Nat) ({ cls := "FencedStandbys$Standby", name := "end", desc := "()I" } : Jvm.MethodName)) ∈ lw_all := lw_g (lw_at lw_m5 21 rfl) rfl
theorem q1040 : (Jvm.Cond.instanceMethod ({ cls := "FencedStandbys", name := "count", desc := "(I)I" } : Jvm.MethodName)) ∈ lw_all := lw_g (lw_at lw_m5 27 rfl) rfl
theorem q1041 : (Jvm.Cond.selects "FencedStandbys" ({ cls := "FencedStandbys", name := "count", desc := "(I)I" } : Jvm.MethodName) ({ cls := "FencedStandbys", name := "count", desc := "(I)I" } : Jvm.MethodName)) ∈ lw_all := lw_g (lw_at lw_m5 28 rfl) rfl
theorem q1042 : (Jvm.Cond.code ({ cls := "FencedStandbys", name := "count", desc := "(I)I" } : Jvm.MethodName) prog_1_method_35_code (2 : Nat) (Option.some Jvm.ClassFile.FieldType.int)) ∈ lw_all := lw_g (lw_at lw_m5 29 rfl) rfl
theorem q1043 : (Jvm.Cond.methodLink "FencedStandbys" (251 : Nat) ({ cls := "java/lang/StringBuilder", name := "length", desc := "()I" } : Jvm.MethodName)) ∈ lw_all := lw_g (lw_at lw_m5 30 rfl) rfl
theorem q1050 : (Jvm.Cond.constantLong "FencedStandbys" (254 : Nat) (21 : Int64)) ∈ lw_all := lw_g (lw_at lw_m5 37 rfl) rfl
theorem q1052 : (Jvm.Cond.instanceMethod ({ cls := "FencedStandbys", name := "undo", desc := "()I" } : Jvm.MethodName)) ∈ lw_all := lw_g (lw_at lw_m5 39 rfl) rfl
theorem q1053 : (Jvm.Cond.selects "FencedStandbys" ({ cls := "FencedStandbys", name := "undo", desc := "()I" } : Jvm.MethodName) ({ cls := "FencedStandbys", name := "undo", desc := "()I" } : Jvm.MethodName)) ∈ lw_all := lw_g (lw_at lw_m5 40 rfl) rfl
theorem q1054 : (Jvm.Cond.code ({ cls := "FencedStandbys", name := "undo", desc := "()I" } : Jvm.MethodName) prog_1_method_36_code (1 : Nat) (Option.some Jvm.ClassFile.FieldType.int)) ∈ lw_all := lw_g (lw_at lw_m5 41 rfl) rfl
theorem q1055 : (Jvm.Cond.methodLink "FencedStandbys" (256 : Nat) ({ cls := "java/util/ArrayDeque", name := "isEmpty", desc := "()Z" } : Jvm.MethodName)) ∈ lw_all := lw_g (lw_at lw_m5 42 rfl) rfl
theorem q1059 : (Jvm.Cond.methodLink "FencedStandbys" (260 : Nat) ({ cls := "java/util/ArrayDeque", name := "removeLast", desc := "()Ljava/lang/Object;" } : Jvm.MethodName)) ∈ lw_all := lw_g (lw_at lw_m5 46 rfl) rfl
theorem q1071 : (Jvm.Cond.instanceMethod ({ cls := "FencedStandbys", name := "type", desc := "(I)I" } : Jvm.MethodName)) ∈ lw_all := lw_g (lw_at lw_m5 58 rfl) rfl
theorem q1072 : (Jvm.Cond.selects "FencedStandbys" ({ cls := "FencedStandbys", name := "type", desc := "(I)I" } : Jvm.MethodName) ({ cls := "FencedStandbys", name := "type", desc := "(I)I" } : Jvm.MethodName)) ∈ lw_all := lw_g (lw_at lw_m5 59 rfl) rfl
theorem q1073 : (Jvm.Cond.code ({ cls := "FencedStandbys", name := "type", desc := "(I)I" } : Jvm.MethodName) prog_1_method_37_code (2 : Nat) (Option.some Jvm.ClassFile.FieldType.int)) ∈ lw_all := lw_g (lw_at lw_m5 60 rfl) rfl
theorem q1074 : (Jvm.Cond.constantLong "FencedStandbys" (263 : Nat) (32 : Int64)) ∈ lw_all := lw_g (lw_at lw_m5 61 rfl) rfl
theorem q1075 : (Jvm.Cond.constantLong "FencedStandbys" (265 : Nat) (126 : Int64)) ∈ lw_all := lw_g (lw_at lw_m5 62 rfl) rfl
theorem q1076 : (Jvm.Cond.constant "FencedStandbys" (267 : Nat) (-1000003 : Int32)) ∈ lw_all := lw_g (lw_at lw_m5 63 rfl) rfl
theorem q1077 : (Jvm.Cond.methodLink "FencedStandbys" (268 : Nat) ({ cls := "java/lang/StringBuilder", name := "append", desc := "(C)Ljava/lang/StringBuilder;" } : Jvm.MethodName)) ∈ lw_all := lw_g (lw_at lw_m5 64 rfl) rfl
theorem q1143 : (Jvm.Cond.instanceMethod ({ cls := "FencedStandbys", name := "clearText", desc := "()I" } : Jvm.MethodName)) ∈ lw_all := lw_g (lw_at lw_m5 130 rfl) rfl
theorem q1144 : (Jvm.Cond.selects "FencedStandbys" ({ cls := "FencedStandbys", name := "clearText", desc := "()I" } : Jvm.MethodName) ({ cls := "FencedStandbys", name := "clearText", desc := "()I" } : Jvm.MethodName)) ∈ lw_all := lw_g (lw_at lw_m5 131 rfl) rfl
theorem q1145 : (Jvm.Cond.code ({ cls := "FencedStandbys", name := "clearText", desc := "()I" } : Jvm.MethodName) prog_1_method_38_code (2 : Nat) (Option.some Jvm.ClassFile.FieldType.int)) ∈ lw_all := lw_g (lw_at lw_m5 132 rfl) rfl
theorem q1146 : (Jvm.Cond.methodLink "FencedStandbys" (272 : Nat) ({ cls := "java/lang/StringBuilder", name := "setLength", desc := "(I)V" } : Jvm.MethodName)) ∈ lw_all := lw_g (lw_at lw_m5 133 rfl) rfl
theorem q1167 : (Jvm.Cond.instanceMethod ({ cls := "FencedStandbys", name := "fault", desc := "(I)I" } : Jvm.MethodName)) ∈ lw_all := lw_g (lw_at lw_m5 154 rfl) rfl
theorem q1168 : (Jvm.Cond.selects "FencedStandbys" ({ cls := "FencedStandbys", name := "fault", desc := "(I)I" } : Jvm.MethodName) ({ cls := "FencedStandbys", name := "fault", desc := "(I)I" } : Jvm.MethodName)) ∈ lw_all := lw_g (lw_at lw_m5 155 rfl) rfl
theorem q1169 : (Jvm.Cond.codeWith ({ cls := "FencedStandbys", name := "fault", desc := "(I)I" } : Jvm.MethodName) prog_1_method_39_code (3 : Nat) (Option.some Jvm.ClassFile.FieldType.int) [((15 : Nat), (28 : Nat), (29 : Nat), (283 : Nat))]) ∈ lw_all := lw_g (lw_at lw_m5 156 rfl) rfl
theorem q1170 : (Jvm.Cond.classLink "FencedStandbys" (283 : Nat) "FencedStandbys$Fault") ∈ lw_all := lw_g (lw_at lw_m5 157 rfl) rfl
theorem q1171 : (Jvm.Cond.classLink "FencedStandbys" (275 : Nat) "FencedStandbys$Reader") ∈ lw_all := lw_g (lw_at lw_m5 158 rfl) rfl
theorem q1173 : (Jvm.Cond.methodLinkNest "FencedStandbys" (277 : Nat) ({ cls := "FencedStandbys$Reader", name := "<init>", desc := "(LFencedStandbys;)V" } : Jvm.MethodName) "FencedStandbys") ∈ lw_tbl := lw_at lw_m5 160 rfl
theorem q1181 : (Jvm.Cond.fieldLinkNest "FencedStandbys" (293 : Nat) "FencedStandbys$Reader" "trial" "LFencedStandbys$Store;" "FencedStandbys") ∈ lw_tbl := lw_at lw_m5 168 rfl
theorem q1186 : (Jvm.Cond.fieldLinkNest "FencedStandbys" (296 : Nat) "FencedStandbys$Reader" "many" "I" "FencedStandbys") ∈ lw_tbl := lw_at lw_m5 173 rfl
theorem q1203 : (Jvm.Cond.methodLink "FencedStandbys" (280 : Nat) ({ cls := "FencedStandbys$Reader", name := "all", desc := "()V" } : Jvm.MethodName)) ∈ lw_all := lw_g (lw_at lw_m5 190 rfl) rfl
theorem q1273 : (Jvm.Cond.fieldLinkNest "FencedStandbys" (285 : Nat) "FencedStandbys$Fault" "begins" "I" "FencedStandbys") ∈ lw_tbl := lw_at lw_m6 20 rfl
theorem q1304 : (Jvm.Cond.methodLink "FencedStandbys" (288 : Nat) ({ cls := "FencedStandbys$Fault", name := "reason", desc := "()I" } : Jvm.MethodName)) ∈ lw_all := lw_g (lw_at lw_m6 51 rfl) rfl
theorem q1314 : (Jvm.Cond.methodLink "FencedStandbys" (291 : Nat) ({ cls := "FencedStandbys$Fault", name := "told", desc := "()I" } : Jvm.MethodName)) ∈ lw_all := lw_g (lw_at lw_m6 61 rfl) rfl
theorem q1320 : (Jvm.Cond.instanceMethod ({ cls := "FencedStandbys", name := "play", desc := "()I" } : Jvm.MethodName)) ∈ lw_all := lw_g (lw_at lw_m6 67 rfl) rfl
theorem q1321 : (Jvm.Cond.selects "FencedStandbys" ({ cls := "FencedStandbys", name := "play", desc := "()I" } : Jvm.MethodName) ({ cls := "FencedStandbys", name := "play", desc := "()I" } : Jvm.MethodName)) ∈ lw_all := lw_g (lw_at lw_m6 68 rfl) rfl
theorem q1322 : (Jvm.Cond.codeWith ({ cls := "FencedStandbys", name := "play", desc := "()I" } : Jvm.MethodName) prog_1_method_40_code (3 : Nat) (Option.some Jvm.ClassFile.FieldType.int) [((9 : Nat), (25 : Nat), (26 : Nat), (283 : Nat))]) ∈ lw_all := lw_g (lw_at lw_m6 69 rfl) rfl
theorem q1620 : (Jvm.Cond.castable "FencedStandbys" "java/lang/Object") ∈ lw_tbl := lw_at lw_m7 127 rfl
theorem in_X0 : ∀ w ∈ wsX00, w ∈ lw_all := lw_in wsX00 [288, 290, 292] (by decide +kernel) (by decide +kernel)

/-! FencedStandbys$Store -/
set_option maxRecDepth 100000
def RX1 : String := "FencedStandbys$Store"
def TX1 : u_T := fun k => match k with
  | 0 => ("FencedStandbys$Store", "log", "LFencedStandbys$Journal;", true)
  | 1 => ("FencedStandbys$Store", "slots", "[I", true)
  | 2 => ("FencedStandbys$Store", "standbys", "[LFencedStandbys$Standby;", true)
  | 3 => ("FencedStandbys$Store", "settings", "[I", false)
  | 4 => ("FencedStandbys$Store", "tick", "I", false)
  | 5 => ("FencedStandbys$Store", "timeline", "I", false)
  | 6 => ("FencedStandbys$Store", "transactions", "I", false)
  | 7 => ("FencedStandbys$Store", "lostCommits", "I", false)
  | 8 => ("FencedStandbys$Store", "lostRecords", "I", false)
  | _ => ("FencedStandbys$Store", "applied", "I", false)
def tyX1 : Nat → FieldType := fun k => match k with
  | 0 => .object "FencedStandbys$Journal"
  | 1 => .array .int
  | 2 => .array (.object "FencedStandbys$Standby")
  | 3 => .array .int
  | 4 => .int
  | 5 => .int
  | 6 => .int
  | 7 => .int
  | 8 => .int
  | _ => .int
abbrev wsX10 : List Cond := u_ws RX1 TX1 10
theorem nmX1 : ∀ a, a < 10 → ∀ b, b < 10 → a ≠ b → (TX1 a).2.1 ≠ (TX1 b).2.1 := by decide +kernel
theorem tyX1_ok : ∀ k, k < 10 → parseFieldDescriptor (TX1 k).2.2.1 = some (tyX1 k) := by decide +kernel
abbrev cX1_init : ByteArray := prog_8_method_1_code
def yX1_init : MethodName := ⟨RX1, "<init>", "()V"⟩
def dkwX1_init_3 : List UInt8 := [183, 0, 35, 83, 42, 180, 0, 17, 4, 187, 0, 15, 89, 183, 0, 35, 83, 177]
abbrev dktX1_init_3 : List UInt8 := dkwX1_init_3 ++ []
def dkwX1_init_2 : List UInt8 := [181, 0, 24, 42, 187, 0, 28, 89, 183, 0, 30, 181, 0, 31, 42, 180, 0, 17, 3, 187, 0, 15, 89]
abbrev dktX1_init_2 : List UInt8 := dkwX1_init_2 ++ dktX1_init_3
def dkwX1_init_1 : List UInt8 := [5, 189, 0, 15, 181, 0, 17, 42, 5, 188, 10, 89, 3, 7, 79, 89, 4, 5, 79, 181, 0, 21, 42, 4]
abbrev dktX1_init_1 : List UInt8 := dkwX1_init_1 ++ dktX1_init_2
def dkwX1_init_0 : List UInt8 := [42, 183, 0, 3, 42, 6, 188, 10, 89, 3, 2, 79, 89, 4, 2, 79, 89, 5, 2, 79, 181, 0, 9, 42]
abbrev dktX1_init_0 : List UInt8 := dkwX1_init_0 ++ dktX1_init_1
theorem dksX1_init_0 : cX1_init.data.toList.drop 0 = dktX1_init_0 := by decide +kernel
theorem dksX1_init_1 : cX1_init.data.toList.drop 24 = dktX1_init_1 := dk_seg dksX1_init_0 24 rfl rfl
theorem dksX1_init_2 : cX1_init.data.toList.drop 48 = dktX1_init_2 := dk_seg dksX1_init_1 24 rfl rfl
theorem dksX1_init_3 : cX1_init.data.toList.drop 71 = dktX1_init_3 := dk_seg dksX1_init_2 23 rfl rfl
theorem dX1_init_0 : decode cX1_init 0 = .ok (.aload_n 0, 1) := dk_42 (dk_at dksX1_init_0 0 rfl rfl)
theorem dX1_init_1 : decode cX1_init 1 = .ok (.invokespecial 3, 3) := dk_183 0 3 (dk_at dksX1_init_0 1 rfl rfl)
theorem dX1_init_4 : decode cX1_init 4 = .ok (.aload_n 0, 1) := dk_42 (dk_at dksX1_init_0 4 rfl rfl)
theorem dX1_init_5 : decode cX1_init 5 = .ok (.iconst 3, 1) := dk_6 (dk_at dksX1_init_0 5 rfl rfl)
theorem dX1_init_6 : decode cX1_init 6 = .ok (.newarray .int, 2) := dk_188_10 (dk_at dksX1_init_0 6 rfl rfl)
theorem dX1_init_8 : decode cX1_init 8 = .ok (.dup, 1) := dk_89 (dk_at dksX1_init_0 8 rfl rfl)
theorem dX1_init_9 : decode cX1_init 9 = .ok (.iconst 0, 1) := dk_3 (dk_at dksX1_init_0 9 rfl rfl)
theorem dX1_init_10 : decode cX1_init 10 = .ok (.iconst (-1), 1) := dk_2 (dk_at dksX1_init_0 10 rfl rfl)
theorem dX1_init_11 : decode cX1_init 11 = .ok (.iastore, 1) := dk_79 (dk_at dksX1_init_0 11 rfl rfl)
theorem dX1_init_12 : decode cX1_init 12 = .ok (.dup, 1) := dk_89 (dk_at dksX1_init_0 12 rfl rfl)
theorem dX1_init_13 : decode cX1_init 13 = .ok (.iconst 1, 1) := dk_4 (dk_at dksX1_init_0 13 rfl rfl)
theorem dX1_init_14 : decode cX1_init 14 = .ok (.iconst (-1), 1) := dk_2 (dk_at dksX1_init_0 14 rfl rfl)
theorem dX1_init_15 : decode cX1_init 15 = .ok (.iastore, 1) := dk_79 (dk_at dksX1_init_0 15 rfl rfl)
theorem dX1_init_16 : decode cX1_init 16 = .ok (.dup, 1) := dk_89 (dk_at dksX1_init_0 16 rfl rfl)
theorem dX1_init_17 : decode cX1_init 17 = .ok (.iconst 2, 1) := dk_5 (dk_at dksX1_init_0 17 rfl rfl)
theorem dX1_init_18 : decode cX1_init 18 = .ok (.iconst (-1), 1) := dk_2 (dk_at dksX1_init_0 18 rfl rfl)
theorem dX1_init_19 : decode cX1_init 19 = .ok (.iastore, 1) := dk_79 (dk_at dksX1_init_0 19 rfl rfl)
theorem dX1_init_20 : decode cX1_init 20 = .ok (.putfield 9, 3) := dk_181 0 9 (dk_at dksX1_init_0 20 rfl rfl)
theorem dX1_init_23 : decode cX1_init 23 = .ok (.aload_n 0, 1) := dk_42 (dk_at dksX1_init_0 23 rfl rfl)
theorem dX1_init_24 : decode cX1_init 24 = .ok (.iconst 2, 1) := dk_5 (dk_at dksX1_init_1 0 rfl rfl)
theorem dX1_init_25 : decode cX1_init 25 = .ok (.anewarray 15, 3) := dk_189 0 15 (dk_at dksX1_init_1 1 rfl rfl)
theorem dX1_init_28 : decode cX1_init 28 = .ok (.putfield 17, 3) := dk_181 0 17 (dk_at dksX1_init_1 4 rfl rfl)
theorem dX1_init_31 : decode cX1_init 31 = .ok (.aload_n 0, 1) := dk_42 (dk_at dksX1_init_1 7 rfl rfl)
theorem dX1_init_32 : decode cX1_init 32 = .ok (.iconst 2, 1) := dk_5 (dk_at dksX1_init_1 8 rfl rfl)
theorem dX1_init_33 : decode cX1_init 33 = .ok (.newarray .int, 2) := dk_188_10 (dk_at dksX1_init_1 9 rfl rfl)
theorem dX1_init_35 : decode cX1_init 35 = .ok (.dup, 1) := dk_89 (dk_at dksX1_init_1 11 rfl rfl)
theorem dX1_init_36 : decode cX1_init 36 = .ok (.iconst 0, 1) := dk_3 (dk_at dksX1_init_1 12 rfl rfl)
theorem dX1_init_37 : decode cX1_init 37 = .ok (.iconst 4, 1) := dk_7 (dk_at dksX1_init_1 13 rfl rfl)
theorem dX1_init_38 : decode cX1_init 38 = .ok (.iastore, 1) := dk_79 (dk_at dksX1_init_1 14 rfl rfl)
theorem dX1_init_39 : decode cX1_init 39 = .ok (.dup, 1) := dk_89 (dk_at dksX1_init_1 15 rfl rfl)
theorem dX1_init_40 : decode cX1_init 40 = .ok (.iconst 1, 1) := dk_4 (dk_at dksX1_init_1 16 rfl rfl)
theorem dX1_init_41 : decode cX1_init 41 = .ok (.iconst 2, 1) := dk_5 (dk_at dksX1_init_1 17 rfl rfl)
theorem dX1_init_42 : decode cX1_init 42 = .ok (.iastore, 1) := dk_79 (dk_at dksX1_init_1 18 rfl rfl)
theorem dX1_init_43 : decode cX1_init 43 = .ok (.putfield 21, 3) := dk_181 0 21 (dk_at dksX1_init_1 19 rfl rfl)
theorem dX1_init_46 : decode cX1_init 46 = .ok (.aload_n 0, 1) := dk_42 (dk_at dksX1_init_1 22 rfl rfl)
theorem dX1_init_47 : decode cX1_init 47 = .ok (.iconst 1, 1) := dk_4 (dk_at dksX1_init_1 23 rfl rfl)
theorem dX1_init_48 : decode cX1_init 48 = .ok (.putfield 24, 3) := dk_181 0 24 (dk_at dksX1_init_2 0 rfl rfl)
theorem dX1_init_51 : decode cX1_init 51 = .ok (.aload_n 0, 1) := dk_42 (dk_at dksX1_init_2 3 rfl rfl)
theorem dX1_init_52 : decode cX1_init 52 = .ok (.new 28, 3) := dk_187 0 28 (dk_at dksX1_init_2 4 rfl rfl)
theorem dX1_init_55 : decode cX1_init 55 = .ok (.dup, 1) := dk_89 (dk_at dksX1_init_2 7 rfl rfl)
theorem dX1_init_56 : decode cX1_init 56 = .ok (.invokespecial 30, 3) := dk_183 0 30 (dk_at dksX1_init_2 8 rfl rfl)
theorem dX1_init_59 : decode cX1_init 59 = .ok (.putfield 31, 3) := dk_181 0 31 (dk_at dksX1_init_2 11 rfl rfl)
theorem dX1_init_62 : decode cX1_init 62 = .ok (.aload_n 0, 1) := dk_42 (dk_at dksX1_init_2 14 rfl rfl)
theorem dX1_init_63 : decode cX1_init 63 = .ok (.getfield 17, 3) := dk_180 0 17 (dk_at dksX1_init_2 15 rfl rfl)
theorem dX1_init_66 : decode cX1_init 66 = .ok (.iconst 0, 1) := dk_3 (dk_at dksX1_init_2 18 rfl rfl)
theorem dX1_init_67 : decode cX1_init 67 = .ok (.new 15, 3) := dk_187 0 15 (dk_at dksX1_init_2 19 rfl rfl)
theorem dX1_init_70 : decode cX1_init 70 = .ok (.dup, 1) := dk_89 (dk_at dksX1_init_2 22 rfl rfl)
theorem dX1_init_71 : decode cX1_init 71 = .ok (.invokespecial 35, 3) := dk_183 0 35 (dk_at dksX1_init_3 0 rfl rfl)
theorem dX1_init_74 : decode cX1_init 74 = .ok (.aastore, 1) := dk_83 (dk_at dksX1_init_3 3 rfl rfl)
theorem dX1_init_75 : decode cX1_init 75 = .ok (.aload_n 0, 1) := dk_42 (dk_at dksX1_init_3 4 rfl rfl)
theorem dX1_init_76 : decode cX1_init 76 = .ok (.getfield 17, 3) := dk_180 0 17 (dk_at dksX1_init_3 5 rfl rfl)
theorem dX1_init_79 : decode cX1_init 79 = .ok (.iconst 1, 1) := dk_4 (dk_at dksX1_init_3 8 rfl rfl)
theorem dX1_init_80 : decode cX1_init 80 = .ok (.new 15, 3) := dk_187 0 15 (dk_at dksX1_init_3 9 rfl rfl)
theorem dX1_init_83 : decode cX1_init 83 = .ok (.dup, 1) := dk_89 (dk_at dksX1_init_3 12 rfl rfl)
theorem dX1_init_84 : decode cX1_init 84 = .ok (.invokespecial 35, 3) := dk_183 0 35 (dk_at dksX1_init_3 13 rfl rfl)
theorem dX1_init_87 : decode cX1_init 87 = .ok (.aastore, 1) := dk_83 (dk_at dksX1_init_3 16 rfl rfl)
theorem dX1_init_88 : decode cX1_init 88 = .ok (.return_, 1) := dk_177 (dk_at dksX1_init_3 17 rfl rfl)
abbrev cX1_init_2 : ByteArray := prog_8_method_2_code
def yX1_init_2 : MethodName := ⟨RX1, "<init>", "(LFencedStandbys$Store;)V"⟩
def dkwX1_init_2_7 : List UInt8 := [180, 0, 62, 181, 0, 62, 42, 43, 180, 0, 65, 181, 0, 65, 177]
abbrev dktX1_init_2_7 : List UInt8 := dkwX1_init_2_7 ++ []
def dkwX1_init_2_6 : List UInt8 := [180, 0, 24, 181, 0, 24, 42, 43, 180, 0, 56, 181, 0, 56, 42, 43, 180, 0, 59, 181, 0, 59, 42, 43]
abbrev dktX1_init_2_6 : List UInt8 := dkwX1_init_2_6 ++ dktX1_init_2_7
def dkwX1_init_2_5 : List UInt8 := [43, 180, 0, 21, 182, 0, 48, 192, 0, 49, 181, 0, 21, 42, 43, 180, 0, 53, 181, 0, 53, 42, 43]
abbrev dktX1_init_2_5 : List UInt8 := dkwX1_init_2_5 ++ dktX1_init_2_6
def dkwX1_init_2_4 : List UInt8 := [183, 0, 45, 83, 42, 180, 0, 17, 4, 187, 0, 15, 89, 43, 180, 0, 17, 4, 50, 183, 0, 45, 83, 42]
abbrev dktX1_init_2_4 : List UInt8 := dkwX1_init_2_4 ++ dktX1_init_2_5
def dkwX1_init_2_3 : List UInt8 := [180, 0, 9, 3, 6, 184, 0, 39, 42, 180, 0, 17, 3, 187, 0, 15, 89, 43, 180, 0, 17, 3, 50]
abbrev dktX1_init_2_3 : List UInt8 := dkwX1_init_2_3 ++ dktX1_init_2_4
def dkwX1_init_2_2 : List UInt8 := [181, 0, 24, 42, 187, 0, 28, 89, 43, 180, 0, 31, 183, 0, 36, 181, 0, 31, 43, 180, 0, 9, 3, 42]
abbrev dktX1_init_2_2 : List UInt8 := dkwX1_init_2_2 ++ dktX1_init_2_3
def dkwX1_init_2_1 : List UInt8 := [5, 189, 0, 15, 181, 0, 17, 42, 5, 188, 10, 89, 3, 7, 79, 89, 4, 5, 79, 181, 0, 21, 42, 4]
abbrev dktX1_init_2_1 : List UInt8 := dkwX1_init_2_1 ++ dktX1_init_2_2
def dkwX1_init_2_0 : List UInt8 := [42, 183, 0, 3, 42, 6, 188, 10, 89, 3, 2, 79, 89, 4, 2, 79, 89, 5, 2, 79, 181, 0, 9, 42]
abbrev dktX1_init_2_0 : List UInt8 := dkwX1_init_2_0 ++ dktX1_init_2_1
theorem dksX1_init_2_0 : cX1_init_2.data.toList.drop 0 = dktX1_init_2_0 := by decide +kernel
theorem dksX1_init_2_1 : cX1_init_2.data.toList.drop 24 = dktX1_init_2_1 := dk_seg dksX1_init_2_0 24 rfl rfl
theorem dksX1_init_2_2 : cX1_init_2.data.toList.drop 48 = dktX1_init_2_2 := dk_seg dksX1_init_2_1 24 rfl rfl
theorem dksX1_init_2_3 : cX1_init_2.data.toList.drop 72 = dktX1_init_2_3 := dk_seg dksX1_init_2_2 24 rfl rfl
theorem dksX1_init_2_4 : cX1_init_2.data.toList.drop 95 = dktX1_init_2_4 := dk_seg dksX1_init_2_3 23 rfl rfl
theorem dksX1_init_2_5 : cX1_init_2.data.toList.drop 119 = dktX1_init_2_5 := dk_seg dksX1_init_2_4 24 rfl rfl
theorem dksX1_init_2_6 : cX1_init_2.data.toList.drop 142 = dktX1_init_2_6 := dk_seg dksX1_init_2_5 23 rfl rfl
theorem dksX1_init_2_7 : cX1_init_2.data.toList.drop 166 = dktX1_init_2_7 := dk_seg dksX1_init_2_6 24 rfl rfl
theorem dX1_init_2_0 : decode cX1_init_2 0 = .ok (.aload_n 0, 1) := dk_42 (dk_at dksX1_init_2_0 0 rfl rfl)
theorem dX1_init_2_1 : decode cX1_init_2 1 = .ok (.invokespecial 3, 3) := dk_183 0 3 (dk_at dksX1_init_2_0 1 rfl rfl)
theorem dX1_init_2_4 : decode cX1_init_2 4 = .ok (.aload_n 0, 1) := dk_42 (dk_at dksX1_init_2_0 4 rfl rfl)
theorem dX1_init_2_5 : decode cX1_init_2 5 = .ok (.iconst 3, 1) := dk_6 (dk_at dksX1_init_2_0 5 rfl rfl)
theorem dX1_init_2_6 : decode cX1_init_2 6 = .ok (.newarray .int, 2) := dk_188_10 (dk_at dksX1_init_2_0 6 rfl rfl)
theorem dX1_init_2_8 : decode cX1_init_2 8 = .ok (.dup, 1) := dk_89 (dk_at dksX1_init_2_0 8 rfl rfl)
theorem dX1_init_2_9 : decode cX1_init_2 9 = .ok (.iconst 0, 1) := dk_3 (dk_at dksX1_init_2_0 9 rfl rfl)
theorem dX1_init_2_10 : decode cX1_init_2 10 = .ok (.iconst (-1), 1) := dk_2 (dk_at dksX1_init_2_0 10 rfl rfl)
theorem dX1_init_2_11 : decode cX1_init_2 11 = .ok (.iastore, 1) := dk_79 (dk_at dksX1_init_2_0 11 rfl rfl)
theorem dX1_init_2_12 : decode cX1_init_2 12 = .ok (.dup, 1) := dk_89 (dk_at dksX1_init_2_0 12 rfl rfl)
theorem dX1_init_2_13 : decode cX1_init_2 13 = .ok (.iconst 1, 1) := dk_4 (dk_at dksX1_init_2_0 13 rfl rfl)
theorem dX1_init_2_14 : decode cX1_init_2 14 = .ok (.iconst (-1), 1) := dk_2 (dk_at dksX1_init_2_0 14 rfl rfl)
theorem dX1_init_2_15 : decode cX1_init_2 15 = .ok (.iastore, 1) := dk_79 (dk_at dksX1_init_2_0 15 rfl rfl)
theorem dX1_init_2_16 : decode cX1_init_2 16 = .ok (.dup, 1) := dk_89 (dk_at dksX1_init_2_0 16 rfl rfl)
theorem dX1_init_2_17 : decode cX1_init_2 17 = .ok (.iconst 2, 1) := dk_5 (dk_at dksX1_init_2_0 17 rfl rfl)
theorem dX1_init_2_18 : decode cX1_init_2 18 = .ok (.iconst (-1), 1) := dk_2 (dk_at dksX1_init_2_0 18 rfl rfl)
theorem dX1_init_2_19 : decode cX1_init_2 19 = .ok (.iastore, 1) := dk_79 (dk_at dksX1_init_2_0 19 rfl rfl)
theorem dX1_init_2_20 : decode cX1_init_2 20 = .ok (.putfield 9, 3) := dk_181 0 9 (dk_at dksX1_init_2_0 20 rfl rfl)
theorem dX1_init_2_23 : decode cX1_init_2 23 = .ok (.aload_n 0, 1) := dk_42 (dk_at dksX1_init_2_0 23 rfl rfl)
theorem dX1_init_2_24 : decode cX1_init_2 24 = .ok (.iconst 2, 1) := dk_5 (dk_at dksX1_init_2_1 0 rfl rfl)
theorem dX1_init_2_25 : decode cX1_init_2 25 = .ok (.anewarray 15, 3) := dk_189 0 15 (dk_at dksX1_init_2_1 1 rfl rfl)
theorem dX1_init_2_28 : decode cX1_init_2 28 = .ok (.putfield 17, 3) := dk_181 0 17 (dk_at dksX1_init_2_1 4 rfl rfl)
theorem dX1_init_2_31 : decode cX1_init_2 31 = .ok (.aload_n 0, 1) := dk_42 (dk_at dksX1_init_2_1 7 rfl rfl)
theorem dX1_init_2_32 : decode cX1_init_2 32 = .ok (.iconst 2, 1) := dk_5 (dk_at dksX1_init_2_1 8 rfl rfl)
theorem dX1_init_2_33 : decode cX1_init_2 33 = .ok (.newarray .int, 2) := dk_188_10 (dk_at dksX1_init_2_1 9 rfl rfl)
theorem dX1_init_2_35 : decode cX1_init_2 35 = .ok (.dup, 1) := dk_89 (dk_at dksX1_init_2_1 11 rfl rfl)
theorem dX1_init_2_36 : decode cX1_init_2 36 = .ok (.iconst 0, 1) := dk_3 (dk_at dksX1_init_2_1 12 rfl rfl)
theorem dX1_init_2_37 : decode cX1_init_2 37 = .ok (.iconst 4, 1) := dk_7 (dk_at dksX1_init_2_1 13 rfl rfl)
theorem dX1_init_2_38 : decode cX1_init_2 38 = .ok (.iastore, 1) := dk_79 (dk_at dksX1_init_2_1 14 rfl rfl)
theorem dX1_init_2_39 : decode cX1_init_2 39 = .ok (.dup, 1) := dk_89 (dk_at dksX1_init_2_1 15 rfl rfl)
theorem dX1_init_2_40 : decode cX1_init_2 40 = .ok (.iconst 1, 1) := dk_4 (dk_at dksX1_init_2_1 16 rfl rfl)
theorem dX1_init_2_41 : decode cX1_init_2 41 = .ok (.iconst 2, 1) := dk_5 (dk_at dksX1_init_2_1 17 rfl rfl)
theorem dX1_init_2_42 : decode cX1_init_2 42 = .ok (.iastore, 1) := dk_79 (dk_at dksX1_init_2_1 18 rfl rfl)
theorem dX1_init_2_43 : decode cX1_init_2 43 = .ok (.putfield 21, 3) := dk_181 0 21 (dk_at dksX1_init_2_1 19 rfl rfl)
theorem dX1_init_2_46 : decode cX1_init_2 46 = .ok (.aload_n 0, 1) := dk_42 (dk_at dksX1_init_2_1 22 rfl rfl)
theorem dX1_init_2_47 : decode cX1_init_2 47 = .ok (.iconst 1, 1) := dk_4 (dk_at dksX1_init_2_1 23 rfl rfl)
theorem dX1_init_2_48 : decode cX1_init_2 48 = .ok (.putfield 24, 3) := dk_181 0 24 (dk_at dksX1_init_2_2 0 rfl rfl)
theorem dX1_init_2_51 : decode cX1_init_2 51 = .ok (.aload_n 0, 1) := dk_42 (dk_at dksX1_init_2_2 3 rfl rfl)
theorem dX1_init_2_52 : decode cX1_init_2 52 = .ok (.new 28, 3) := dk_187 0 28 (dk_at dksX1_init_2_2 4 rfl rfl)
theorem dX1_init_2_55 : decode cX1_init_2 55 = .ok (.dup, 1) := dk_89 (dk_at dksX1_init_2_2 7 rfl rfl)
theorem dX1_init_2_56 : decode cX1_init_2 56 = .ok (.aload_n 1, 1) := dk_43 (dk_at dksX1_init_2_2 8 rfl rfl)
theorem dX1_init_2_57 : decode cX1_init_2 57 = .ok (.getfield 31, 3) := dk_180 0 31 (dk_at dksX1_init_2_2 9 rfl rfl)
theorem dX1_init_2_60 : decode cX1_init_2 60 = .ok (.invokespecial 36, 3) := dk_183 0 36 (dk_at dksX1_init_2_2 12 rfl rfl)
theorem dX1_init_2_63 : decode cX1_init_2 63 = .ok (.putfield 31, 3) := dk_181 0 31 (dk_at dksX1_init_2_2 15 rfl rfl)
theorem dX1_init_2_66 : decode cX1_init_2 66 = .ok (.aload_n 1, 1) := dk_43 (dk_at dksX1_init_2_2 18 rfl rfl)
theorem dX1_init_2_67 : decode cX1_init_2 67 = .ok (.getfield 9, 3) := dk_180 0 9 (dk_at dksX1_init_2_2 19 rfl rfl)
theorem dX1_init_2_70 : decode cX1_init_2 70 = .ok (.iconst 0, 1) := dk_3 (dk_at dksX1_init_2_2 22 rfl rfl)
theorem dX1_init_2_71 : decode cX1_init_2 71 = .ok (.aload_n 0, 1) := dk_42 (dk_at dksX1_init_2_2 23 rfl rfl)
theorem dX1_init_2_72 : decode cX1_init_2 72 = .ok (.getfield 9, 3) := dk_180 0 9 (dk_at dksX1_init_2_3 0 rfl rfl)
theorem dX1_init_2_75 : decode cX1_init_2 75 = .ok (.iconst 0, 1) := dk_3 (dk_at dksX1_init_2_3 3 rfl rfl)
theorem dX1_init_2_76 : decode cX1_init_2 76 = .ok (.iconst 3, 1) := dk_6 (dk_at dksX1_init_2_3 4 rfl rfl)
theorem dX1_init_2_77 : decode cX1_init_2 77 = .ok (.invokestatic 39, 3) := dk_184 0 39 (dk_at dksX1_init_2_3 5 rfl rfl)
theorem dX1_init_2_80 : decode cX1_init_2 80 = .ok (.aload_n 0, 1) := dk_42 (dk_at dksX1_init_2_3 8 rfl rfl)
theorem dX1_init_2_81 : decode cX1_init_2 81 = .ok (.getfield 17, 3) := dk_180 0 17 (dk_at dksX1_init_2_3 9 rfl rfl)
theorem dX1_init_2_84 : decode cX1_init_2 84 = .ok (.iconst 0, 1) := dk_3 (dk_at dksX1_init_2_3 12 rfl rfl)
theorem dX1_init_2_85 : decode cX1_init_2 85 = .ok (.new 15, 3) := dk_187 0 15 (dk_at dksX1_init_2_3 13 rfl rfl)
theorem dX1_init_2_88 : decode cX1_init_2 88 = .ok (.dup, 1) := dk_89 (dk_at dksX1_init_2_3 16 rfl rfl)
theorem dX1_init_2_89 : decode cX1_init_2 89 = .ok (.aload_n 1, 1) := dk_43 (dk_at dksX1_init_2_3 17 rfl rfl)
theorem dX1_init_2_90 : decode cX1_init_2 90 = .ok (.getfield 17, 3) := dk_180 0 17 (dk_at dksX1_init_2_3 18 rfl rfl)
theorem dX1_init_2_93 : decode cX1_init_2 93 = .ok (.iconst 0, 1) := dk_3 (dk_at dksX1_init_2_3 21 rfl rfl)
theorem dX1_init_2_94 : decode cX1_init_2 94 = .ok (.aaload, 1) := dk_50 (dk_at dksX1_init_2_3 22 rfl rfl)
theorem dX1_init_2_95 : decode cX1_init_2 95 = .ok (.invokespecial 45, 3) := dk_183 0 45 (dk_at dksX1_init_2_4 0 rfl rfl)
theorem dX1_init_2_98 : decode cX1_init_2 98 = .ok (.aastore, 1) := dk_83 (dk_at dksX1_init_2_4 3 rfl rfl)
theorem dX1_init_2_99 : decode cX1_init_2 99 = .ok (.aload_n 0, 1) := dk_42 (dk_at dksX1_init_2_4 4 rfl rfl)
theorem dX1_init_2_100 : decode cX1_init_2 100 = .ok (.getfield 17, 3) := dk_180 0 17 (dk_at dksX1_init_2_4 5 rfl rfl)
theorem dX1_init_2_103 : decode cX1_init_2 103 = .ok (.iconst 1, 1) := dk_4 (dk_at dksX1_init_2_4 8 rfl rfl)
theorem dX1_init_2_104 : decode cX1_init_2 104 = .ok (.new 15, 3) := dk_187 0 15 (dk_at dksX1_init_2_4 9 rfl rfl)
theorem dX1_init_2_107 : decode cX1_init_2 107 = .ok (.dup, 1) := dk_89 (dk_at dksX1_init_2_4 12 rfl rfl)
theorem dX1_init_2_108 : decode cX1_init_2 108 = .ok (.aload_n 1, 1) := dk_43 (dk_at dksX1_init_2_4 13 rfl rfl)
theorem dX1_init_2_109 : decode cX1_init_2 109 = .ok (.getfield 17, 3) := dk_180 0 17 (dk_at dksX1_init_2_4 14 rfl rfl)
theorem dX1_init_2_112 : decode cX1_init_2 112 = .ok (.iconst 1, 1) := dk_4 (dk_at dksX1_init_2_4 17 rfl rfl)
theorem dX1_init_2_113 : decode cX1_init_2 113 = .ok (.aaload, 1) := dk_50 (dk_at dksX1_init_2_4 18 rfl rfl)
theorem dX1_init_2_114 : decode cX1_init_2 114 = .ok (.invokespecial 45, 3) := dk_183 0 45 (dk_at dksX1_init_2_4 19 rfl rfl)
theorem dX1_init_2_117 : decode cX1_init_2 117 = .ok (.aastore, 1) := dk_83 (dk_at dksX1_init_2_4 22 rfl rfl)
theorem dX1_init_2_118 : decode cX1_init_2 118 = .ok (.aload_n 0, 1) := dk_42 (dk_at dksX1_init_2_4 23 rfl rfl)
theorem dX1_init_2_119 : decode cX1_init_2 119 = .ok (.aload_n 1, 1) := dk_43 (dk_at dksX1_init_2_5 0 rfl rfl)
theorem dX1_init_2_120 : decode cX1_init_2 120 = .ok (.getfield 21, 3) := dk_180 0 21 (dk_at dksX1_init_2_5 1 rfl rfl)
theorem dX1_init_2_123 : decode cX1_init_2 123 = .ok (.invokevirtual 48, 3) := dk_182 0 48 (dk_at dksX1_init_2_5 4 rfl rfl)
theorem dX1_init_2_126 : decode cX1_init_2 126 = .ok (.checkcast 49, 3) := dk_192 0 49 (dk_at dksX1_init_2_5 7 rfl rfl)
theorem dX1_init_2_129 : decode cX1_init_2 129 = .ok (.putfield 21, 3) := dk_181 0 21 (dk_at dksX1_init_2_5 10 rfl rfl)
theorem dX1_init_2_132 : decode cX1_init_2 132 = .ok (.aload_n 0, 1) := dk_42 (dk_at dksX1_init_2_5 13 rfl rfl)
theorem dX1_init_2_133 : decode cX1_init_2 133 = .ok (.aload_n 1, 1) := dk_43 (dk_at dksX1_init_2_5 14 rfl rfl)
theorem dX1_init_2_134 : decode cX1_init_2 134 = .ok (.getfield 53, 3) := dk_180 0 53 (dk_at dksX1_init_2_5 15 rfl rfl)
theorem dX1_init_2_137 : decode cX1_init_2 137 = .ok (.putfield 53, 3) := dk_181 0 53 (dk_at dksX1_init_2_5 18 rfl rfl)
theorem dX1_init_2_140 : decode cX1_init_2 140 = .ok (.aload_n 0, 1) := dk_42 (dk_at dksX1_init_2_5 21 rfl rfl)
theorem dX1_init_2_141 : decode cX1_init_2 141 = .ok (.aload_n 1, 1) := dk_43 (dk_at dksX1_init_2_5 22 rfl rfl)
theorem dX1_init_2_142 : decode cX1_init_2 142 = .ok (.getfield 24, 3) := dk_180 0 24 (dk_at dksX1_init_2_6 0 rfl rfl)
theorem dX1_init_2_145 : decode cX1_init_2 145 = .ok (.putfield 24, 3) := dk_181 0 24 (dk_at dksX1_init_2_6 3 rfl rfl)
theorem dX1_init_2_148 : decode cX1_init_2 148 = .ok (.aload_n 0, 1) := dk_42 (dk_at dksX1_init_2_6 6 rfl rfl)
theorem dX1_init_2_149 : decode cX1_init_2 149 = .ok (.aload_n 1, 1) := dk_43 (dk_at dksX1_init_2_6 7 rfl rfl)
theorem dX1_init_2_150 : decode cX1_init_2 150 = .ok (.getfield 56, 3) := dk_180 0 56 (dk_at dksX1_init_2_6 8 rfl rfl)
theorem dX1_init_2_153 : decode cX1_init_2 153 = .ok (.putfield 56, 3) := dk_181 0 56 (dk_at dksX1_init_2_6 11 rfl rfl)
theorem dX1_init_2_156 : decode cX1_init_2 156 = .ok (.aload_n 0, 1) := dk_42 (dk_at dksX1_init_2_6 14 rfl rfl)
theorem dX1_init_2_157 : decode cX1_init_2 157 = .ok (.aload_n 1, 1) := dk_43 (dk_at dksX1_init_2_6 15 rfl rfl)
theorem dX1_init_2_158 : decode cX1_init_2 158 = .ok (.getfield 59, 3) := dk_180 0 59 (dk_at dksX1_init_2_6 16 rfl rfl)
theorem dX1_init_2_161 : decode cX1_init_2 161 = .ok (.putfield 59, 3) := dk_181 0 59 (dk_at dksX1_init_2_6 19 rfl rfl)
theorem dX1_init_2_164 : decode cX1_init_2 164 = .ok (.aload_n 0, 1) := dk_42 (dk_at dksX1_init_2_6 22 rfl rfl)
theorem dX1_init_2_165 : decode cX1_init_2 165 = .ok (.aload_n 1, 1) := dk_43 (dk_at dksX1_init_2_6 23 rfl rfl)
theorem dX1_init_2_166 : decode cX1_init_2 166 = .ok (.getfield 62, 3) := dk_180 0 62 (dk_at dksX1_init_2_7 0 rfl rfl)
theorem dX1_init_2_169 : decode cX1_init_2 169 = .ok (.putfield 62, 3) := dk_181 0 62 (dk_at dksX1_init_2_7 3 rfl rfl)
theorem dX1_init_2_172 : decode cX1_init_2 172 = .ok (.aload_n 0, 1) := dk_42 (dk_at dksX1_init_2_7 6 rfl rfl)
theorem dX1_init_2_173 : decode cX1_init_2 173 = .ok (.aload_n 1, 1) := dk_43 (dk_at dksX1_init_2_7 7 rfl rfl)
theorem dX1_init_2_174 : decode cX1_init_2 174 = .ok (.getfield 65, 3) := dk_180 0 65 (dk_at dksX1_init_2_7 8 rfl rfl)
theorem dX1_init_2_177 : decode cX1_init_2 177 = .ok (.putfield 65, 3) := dk_181 0 65 (dk_at dksX1_init_2_7 11 rfl rfl)
theorem dX1_init_2_180 : decode cX1_init_2 180 = .ok (.return_, 1) := dk_177 (dk_at dksX1_init_2_7 14 rfl rfl)
abbrev cX1_opened : ByteArray := prog_8_method_11_code
def yX1_opened : MethodName := ⟨RX1, "opened", "(I)I"⟩
def dkwX1_opened_1 : List UInt8 := [180, 0, 56, 4, 96, 181, 0, 56, 42, 180, 0, 9, 27, 42, 180, 0, 56, 79, 42, 180, 0, 56, 172]
abbrev dktX1_opened_1 : List UInt8 := dkwX1_opened_1 ++ []
def dkwX1_opened_0 : List UInt8 := [42, 180, 0, 9, 27, 46, 2, 159, 0, 13, 187, 0, 104, 89, 18, 106, 183, 0, 107, 191, 42, 89]
abbrev dktX1_opened_0 : List UInt8 := dkwX1_opened_0 ++ dktX1_opened_1
theorem dksX1_opened_0 : cX1_opened.data.toList.drop 0 = dktX1_opened_0 := by decide +kernel
theorem dksX1_opened_1 : cX1_opened.data.toList.drop 22 = dktX1_opened_1 := dk_seg dksX1_opened_0 22 rfl rfl
theorem dX1_opened_0 : decode cX1_opened 0 = .ok (.aload_n 0, 1) := dk_42 (dk_at dksX1_opened_0 0 rfl rfl)
theorem dX1_opened_1 : decode cX1_opened 1 = .ok (.getfield 9, 3) := dk_180 0 9 (dk_at dksX1_opened_0 1 rfl rfl)
theorem dX1_opened_4 : decode cX1_opened 4 = .ok (.iload_n 1, 1) := dk_27 (dk_at dksX1_opened_0 4 rfl rfl)
theorem dX1_opened_5 : decode cX1_opened 5 = .ok (.iaload, 1) := dk_46 (dk_at dksX1_opened_0 5 rfl rfl)
theorem dX1_opened_6 : decode cX1_opened 6 = .ok (.iconst (-1), 1) := dk_2 (dk_at dksX1_opened_0 6 rfl rfl)
theorem dX1_opened_7 : decode cX1_opened 7 = .ok (.if_icmp .eq 13, 3) := dk_159 0 13 (dk_at dksX1_opened_0 7 rfl rfl)
theorem dX1_opened_10 : decode cX1_opened 10 = .ok (.new 104, 3) := dk_187 0 104 (dk_at dksX1_opened_0 10 rfl rfl)
theorem dX1_opened_13 : decode cX1_opened 13 = .ok (.dup, 1) := dk_89 (dk_at dksX1_opened_0 13 rfl rfl)
theorem dX1_opened_14 : decode cX1_opened 14 = .ok (.ldc 106, 2) := dk_18 106 (dk_at dksX1_opened_0 14 rfl rfl)
theorem dX1_opened_16 : decode cX1_opened 16 = .ok (.invokespecial 107, 3) := dk_183 0 107 (dk_at dksX1_opened_0 16 rfl rfl)
theorem dX1_opened_19 : decode cX1_opened 19 = .ok (.athrow, 1) := dk_191 (dk_at dksX1_opened_0 19 rfl rfl)
theorem dX1_opened_20 : decode cX1_opened 20 = .ok (.aload_n 0, 1) := dk_42 (dk_at dksX1_opened_0 20 rfl rfl)
theorem dX1_opened_21 : decode cX1_opened 21 = .ok (.dup, 1) := dk_89 (dk_at dksX1_opened_0 21 rfl rfl)
theorem dX1_opened_22 : decode cX1_opened 22 = .ok (.getfield 56, 3) := dk_180 0 56 (dk_at dksX1_opened_1 0 rfl rfl)
theorem dX1_opened_25 : decode cX1_opened 25 = .ok (.iconst 1, 1) := dk_4 (dk_at dksX1_opened_1 3 rfl rfl)
theorem dX1_opened_26 : decode cX1_opened 26 = .ok (.iadd, 1) := dk_96 (dk_at dksX1_opened_1 4 rfl rfl)
theorem dX1_opened_27 : decode cX1_opened 27 = .ok (.putfield 56, 3) := dk_181 0 56 (dk_at dksX1_opened_1 5 rfl rfl)
theorem dX1_opened_30 : decode cX1_opened 30 = .ok (.aload_n 0, 1) := dk_42 (dk_at dksX1_opened_1 8 rfl rfl)
theorem dX1_opened_31 : decode cX1_opened 31 = .ok (.getfield 9, 3) := dk_180 0 9 (dk_at dksX1_opened_1 9 rfl rfl)
theorem dX1_opened_34 : decode cX1_opened 34 = .ok (.iload_n 1, 1) := dk_27 (dk_at dksX1_opened_1 12 rfl rfl)
theorem dX1_opened_35 : decode cX1_opened 35 = .ok (.aload_n 0, 1) := dk_42 (dk_at dksX1_opened_1 13 rfl rfl)
theorem dX1_opened_36 : decode cX1_opened 36 = .ok (.getfield 56, 3) := dk_180 0 56 (dk_at dksX1_opened_1 14 rfl rfl)
theorem dX1_opened_39 : decode cX1_opened 39 = .ok (.iastore, 1) := dk_79 (dk_at dksX1_opened_1 17 rfl rfl)
theorem dX1_opened_40 : decode cX1_opened 40 = .ok (.aload_n 0, 1) := dk_42 (dk_at dksX1_opened_1 18 rfl rfl)
theorem dX1_opened_41 : decode cX1_opened 41 = .ok (.getfield 56, 3) := dk_180 0 56 (dk_at dksX1_opened_1 19 rfl rfl)
theorem dX1_opened_44 : decode cX1_opened 44 = .ok (.ireturn, 1) := dk_172 (dk_at dksX1_opened_1 22 rfl rfl)
abbrev cX1_puts : ByteArray := prog_8_method_12_code
def yX1_puts : MethodName := ⟨RX1, "puts", "(III)I"⟩
def dkwX1_puts_1 : List UInt8 := [5, 188, 10, 89, 3, 28, 79, 89, 4, 29, 79, 183, 0, 114, 182, 0, 117, 172]
abbrev dktX1_puts_1 : List UInt8 := dkwX1_puts_1 ++ []
def dkwX1_puts_0 : List UInt8 := [42, 27, 182, 0, 111, 42, 180, 0, 31, 187, 0, 72, 89, 3, 42, 180, 0, 9, 27, 46, 42, 180, 0, 53]
abbrev dktX1_puts_0 : List UInt8 := dkwX1_puts_0 ++ dktX1_puts_1
theorem dksX1_puts_0 : cX1_puts.data.toList.drop 0 = dktX1_puts_0 := by decide +kernel
theorem dksX1_puts_1 : cX1_puts.data.toList.drop 24 = dktX1_puts_1 := dk_seg dksX1_puts_0 24 rfl rfl
theorem dX1_puts_0 : decode cX1_puts 0 = .ok (.aload_n 0, 1) := dk_42 (dk_at dksX1_puts_0 0 rfl rfl)
theorem dX1_puts_1 : decode cX1_puts 1 = .ok (.iload_n 1, 1) := dk_27 (dk_at dksX1_puts_0 1 rfl rfl)
theorem dX1_puts_2 : decode cX1_puts 2 = .ok (.invokevirtual 111, 3) := dk_182 0 111 (dk_at dksX1_puts_0 2 rfl rfl)
theorem dX1_puts_5 : decode cX1_puts 5 = .ok (.aload_n 0, 1) := dk_42 (dk_at dksX1_puts_0 5 rfl rfl)
theorem dX1_puts_6 : decode cX1_puts 6 = .ok (.getfield 31, 3) := dk_180 0 31 (dk_at dksX1_puts_0 6 rfl rfl)
theorem dX1_puts_9 : decode cX1_puts 9 = .ok (.new 72, 3) := dk_187 0 72 (dk_at dksX1_puts_0 9 rfl rfl)
theorem dX1_puts_12 : decode cX1_puts 12 = .ok (.dup, 1) := dk_89 (dk_at dksX1_puts_0 12 rfl rfl)
theorem dX1_puts_13 : decode cX1_puts 13 = .ok (.iconst 0, 1) := dk_3 (dk_at dksX1_puts_0 13 rfl rfl)
theorem dX1_puts_14 : decode cX1_puts 14 = .ok (.aload_n 0, 1) := dk_42 (dk_at dksX1_puts_0 14 rfl rfl)
theorem dX1_puts_15 : decode cX1_puts 15 = .ok (.getfield 9, 3) := dk_180 0 9 (dk_at dksX1_puts_0 15 rfl rfl)
theorem dX1_puts_18 : decode cX1_puts 18 = .ok (.iload_n 1, 1) := dk_27 (dk_at dksX1_puts_0 18 rfl rfl)
theorem dX1_puts_19 : decode cX1_puts 19 = .ok (.iaload, 1) := dk_46 (dk_at dksX1_puts_0 19 rfl rfl)
theorem dX1_puts_20 : decode cX1_puts 20 = .ok (.aload_n 0, 1) := dk_42 (dk_at dksX1_puts_0 20 rfl rfl)
theorem dX1_puts_21 : decode cX1_puts 21 = .ok (.getfield 53, 3) := dk_180 0 53 (dk_at dksX1_puts_0 21 rfl rfl)
theorem dX1_puts_24 : decode cX1_puts 24 = .ok (.iconst 2, 1) := dk_5 (dk_at dksX1_puts_1 0 rfl rfl)
theorem dX1_puts_25 : decode cX1_puts 25 = .ok (.newarray .int, 2) := dk_188_10 (dk_at dksX1_puts_1 1 rfl rfl)
theorem dX1_puts_27 : decode cX1_puts 27 = .ok (.dup, 1) := dk_89 (dk_at dksX1_puts_1 3 rfl rfl)
theorem dX1_puts_28 : decode cX1_puts 28 = .ok (.iconst 0, 1) := dk_3 (dk_at dksX1_puts_1 4 rfl rfl)
theorem dX1_puts_29 : decode cX1_puts 29 = .ok (.iload_n 2, 1) := dk_28 (dk_at dksX1_puts_1 5 rfl rfl)
theorem dX1_puts_30 : decode cX1_puts 30 = .ok (.iastore, 1) := dk_79 (dk_at dksX1_puts_1 6 rfl rfl)
theorem dX1_puts_31 : decode cX1_puts 31 = .ok (.dup, 1) := dk_89 (dk_at dksX1_puts_1 7 rfl rfl)
theorem dX1_puts_32 : decode cX1_puts 32 = .ok (.iconst 1, 1) := dk_4 (dk_at dksX1_puts_1 8 rfl rfl)
theorem dX1_puts_33 : decode cX1_puts 33 = .ok (.iload_n 3, 1) := dk_29 (dk_at dksX1_puts_1 9 rfl rfl)
theorem dX1_puts_34 : decode cX1_puts 34 = .ok (.iastore, 1) := dk_79 (dk_at dksX1_puts_1 10 rfl rfl)
theorem dX1_puts_35 : decode cX1_puts 35 = .ok (.invokespecial 114, 3) := dk_183 0 114 (dk_at dksX1_puts_1 11 rfl rfl)
theorem dX1_puts_38 : decode cX1_puts 38 = .ok (.invokevirtual 117, 3) := dk_182 0 117 (dk_at dksX1_puts_1 14 rfl rfl)
theorem dX1_puts_41 : decode cX1_puts 41 = .ok (.ireturn, 1) := dk_172 (dk_at dksX1_puts_1 17 rfl rfl)
abbrev cX1_need : ByteArray := prog_8_method_10_code
def yX1_need : MethodName := ⟨RX1, "need", "(I)V"⟩
def dkwX1_need_1 : List UInt8 := [182, 0, 100, 16, 100, 160, 0, 13, 187, 0, 104, 89, 18, 110, 183, 0, 107, 191, 177]
abbrev dktX1_need_1 : List UInt8 := dkwX1_need_1 ++ []
def dkwX1_need_0 : List UInt8 := [42, 180, 0, 9, 27, 46, 2, 160, 0, 13, 187, 0, 104, 89, 18, 106, 183, 0, 107, 191, 42, 180, 0, 31]
abbrev dktX1_need_0 : List UInt8 := dkwX1_need_0 ++ dktX1_need_1
theorem dksX1_need_0 : cX1_need.data.toList.drop 0 = dktX1_need_0 := by decide +kernel
theorem dksX1_need_1 : cX1_need.data.toList.drop 24 = dktX1_need_1 := dk_seg dksX1_need_0 24 rfl rfl
theorem dX1_need_0 : decode cX1_need 0 = .ok (.aload_n 0, 1) := dk_42 (dk_at dksX1_need_0 0 rfl rfl)
theorem dX1_need_1 : decode cX1_need 1 = .ok (.getfield 9, 3) := dk_180 0 9 (dk_at dksX1_need_0 1 rfl rfl)
theorem dX1_need_4 : decode cX1_need 4 = .ok (.iload_n 1, 1) := dk_27 (dk_at dksX1_need_0 4 rfl rfl)
theorem dX1_need_5 : decode cX1_need 5 = .ok (.iaload, 1) := dk_46 (dk_at dksX1_need_0 5 rfl rfl)
theorem dX1_need_6 : decode cX1_need 6 = .ok (.iconst (-1), 1) := dk_2 (dk_at dksX1_need_0 6 rfl rfl)
theorem dX1_need_7 : decode cX1_need 7 = .ok (.if_icmp .ne 13, 3) := dk_160 0 13 (dk_at dksX1_need_0 7 rfl rfl)
theorem dX1_need_10 : decode cX1_need 10 = .ok (.new 104, 3) := dk_187 0 104 (dk_at dksX1_need_0 10 rfl rfl)
theorem dX1_need_13 : decode cX1_need 13 = .ok (.dup, 1) := dk_89 (dk_at dksX1_need_0 13 rfl rfl)
theorem dX1_need_14 : decode cX1_need 14 = .ok (.ldc 106, 2) := dk_18 106 (dk_at dksX1_need_0 14 rfl rfl)
theorem dX1_need_16 : decode cX1_need 16 = .ok (.invokespecial 107, 3) := dk_183 0 107 (dk_at dksX1_need_0 16 rfl rfl)
theorem dX1_need_19 : decode cX1_need 19 = .ok (.athrow, 1) := dk_191 (dk_at dksX1_need_0 19 rfl rfl)
theorem dX1_need_20 : decode cX1_need 20 = .ok (.aload_n 0, 1) := dk_42 (dk_at dksX1_need_0 20 rfl rfl)
theorem dX1_need_21 : decode cX1_need 21 = .ok (.getfield 31, 3) := dk_180 0 31 (dk_at dksX1_need_0 21 rfl rfl)
theorem dX1_need_24 : decode cX1_need 24 = .ok (.invokevirtual 100, 3) := dk_182 0 100 (dk_at dksX1_need_1 0 rfl rfl)
theorem dX1_need_27 : decode cX1_need 27 = .ok (.bipush 100, 2) := dk_16 100 (dk_at dksX1_need_1 3 rfl rfl)
theorem dX1_need_29 : decode cX1_need 29 = .ok (.if_icmp .ne 13, 3) := dk_160 0 13 (dk_at dksX1_need_1 5 rfl rfl)
theorem dX1_need_32 : decode cX1_need 32 = .ok (.new 104, 3) := dk_187 0 104 (dk_at dksX1_need_1 8 rfl rfl)
theorem dX1_need_35 : decode cX1_need 35 = .ok (.dup, 1) := dk_89 (dk_at dksX1_need_1 11 rfl rfl)
theorem dX1_need_36 : decode cX1_need 36 = .ok (.ldc 110, 2) := dk_18 110 (dk_at dksX1_need_1 12 rfl rfl)
theorem dX1_need_38 : decode cX1_need 38 = .ok (.invokespecial 107, 3) := dk_183 0 107 (dk_at dksX1_need_1 14 rfl rfl)
theorem dX1_need_41 : decode cX1_need 41 = .ok (.athrow, 1) := dk_191 (dk_at dksX1_need_1 17 rfl rfl)
theorem dX1_need_42 : decode cX1_need 42 = .ok (.return_, 1) := dk_177 (dk_at dksX1_need_1 18 rfl rfl)
abbrev cX1_ends : ByteArray := prog_8_method_13_code
def yX1_ends : MethodName := ⟨RX1, "ends", "(II)I"⟩
def dkwX1_ends_1 : List UInt8 := [3, 188, 10, 183, 0, 114, 182, 0, 117, 62, 42, 180, 0, 9, 27, 2, 79, 29, 172]
abbrev dktX1_ends_1 : List UInt8 := dkwX1_ends_1 ++ []
def dkwX1_ends_0 : List UInt8 := [42, 27, 182, 0, 111, 42, 180, 0, 31, 187, 0, 72, 89, 28, 42, 180, 0, 9, 27, 46, 42, 180, 0, 53]
abbrev dktX1_ends_0 : List UInt8 := dkwX1_ends_0 ++ dktX1_ends_1
theorem dksX1_ends_0 : cX1_ends.data.toList.drop 0 = dktX1_ends_0 := by decide +kernel
theorem dksX1_ends_1 : cX1_ends.data.toList.drop 24 = dktX1_ends_1 := dk_seg dksX1_ends_0 24 rfl rfl
theorem dX1_ends_0 : decode cX1_ends 0 = .ok (.aload_n 0, 1) := dk_42 (dk_at dksX1_ends_0 0 rfl rfl)
theorem dX1_ends_1 : decode cX1_ends 1 = .ok (.iload_n 1, 1) := dk_27 (dk_at dksX1_ends_0 1 rfl rfl)
theorem dX1_ends_2 : decode cX1_ends 2 = .ok (.invokevirtual 111, 3) := dk_182 0 111 (dk_at dksX1_ends_0 2 rfl rfl)
theorem dX1_ends_5 : decode cX1_ends 5 = .ok (.aload_n 0, 1) := dk_42 (dk_at dksX1_ends_0 5 rfl rfl)
theorem dX1_ends_6 : decode cX1_ends 6 = .ok (.getfield 31, 3) := dk_180 0 31 (dk_at dksX1_ends_0 6 rfl rfl)
theorem dX1_ends_9 : decode cX1_ends 9 = .ok (.new 72, 3) := dk_187 0 72 (dk_at dksX1_ends_0 9 rfl rfl)
theorem dX1_ends_12 : decode cX1_ends 12 = .ok (.dup, 1) := dk_89 (dk_at dksX1_ends_0 12 rfl rfl)
theorem dX1_ends_13 : decode cX1_ends 13 = .ok (.iload_n 2, 1) := dk_28 (dk_at dksX1_ends_0 13 rfl rfl)
theorem dX1_ends_14 : decode cX1_ends 14 = .ok (.aload_n 0, 1) := dk_42 (dk_at dksX1_ends_0 14 rfl rfl)
theorem dX1_ends_15 : decode cX1_ends 15 = .ok (.getfield 9, 3) := dk_180 0 9 (dk_at dksX1_ends_0 15 rfl rfl)
theorem dX1_ends_18 : decode cX1_ends 18 = .ok (.iload_n 1, 1) := dk_27 (dk_at dksX1_ends_0 18 rfl rfl)
theorem dX1_ends_19 : decode cX1_ends 19 = .ok (.iaload, 1) := dk_46 (dk_at dksX1_ends_0 19 rfl rfl)
theorem dX1_ends_20 : decode cX1_ends 20 = .ok (.aload_n 0, 1) := dk_42 (dk_at dksX1_ends_0 20 rfl rfl)
theorem dX1_ends_21 : decode cX1_ends 21 = .ok (.getfield 53, 3) := dk_180 0 53 (dk_at dksX1_ends_0 21 rfl rfl)
theorem dX1_ends_24 : decode cX1_ends 24 = .ok (.iconst 0, 1) := dk_3 (dk_at dksX1_ends_1 0 rfl rfl)
theorem dX1_ends_25 : decode cX1_ends 25 = .ok (.newarray .int, 2) := dk_188_10 (dk_at dksX1_ends_1 1 rfl rfl)
theorem dX1_ends_27 : decode cX1_ends 27 = .ok (.invokespecial 114, 3) := dk_183 0 114 (dk_at dksX1_ends_1 3 rfl rfl)
theorem dX1_ends_30 : decode cX1_ends 30 = .ok (.invokevirtual 117, 3) := dk_182 0 117 (dk_at dksX1_ends_1 6 rfl rfl)
theorem dX1_ends_33 : decode cX1_ends 33 = .ok (.istore_n 3, 1) := dk_62 (dk_at dksX1_ends_1 9 rfl rfl)
theorem dX1_ends_34 : decode cX1_ends 34 = .ok (.aload_n 0, 1) := dk_42 (dk_at dksX1_ends_1 10 rfl rfl)
theorem dX1_ends_35 : decode cX1_ends 35 = .ok (.getfield 9, 3) := dk_180 0 9 (dk_at dksX1_ends_1 11 rfl rfl)
theorem dX1_ends_38 : decode cX1_ends 38 = .ok (.iload_n 1, 1) := dk_27 (dk_at dksX1_ends_1 14 rfl rfl)
theorem dX1_ends_39 : decode cX1_ends 39 = .ok (.iconst (-1), 1) := dk_2 (dk_at dksX1_ends_1 15 rfl rfl)
theorem dX1_ends_40 : decode cX1_ends 40 = .ok (.iastore, 1) := dk_79 (dk_at dksX1_ends_1 16 rfl rfl)
theorem dX1_ends_41 : decode cX1_ends 41 = .ok (.iload_n 3, 1) := dk_29 (dk_at dksX1_ends_1 17 rfl rfl)
theorem dX1_ends_42 : decode cX1_ends 42 = .ok (.ireturn, 1) := dk_172 (dk_at dksX1_ends_1 18 rfl rfl)
abbrev cX1_ships : ByteArray := prog_8_method_15_code
def yX1_ships : MethodName := ⟨RX1, "ships", "(II)I"⟩
def dkwX1_ships_1 : List UInt8 := [45, 89, 180, 0, 129, 21, 4, 96, 181, 0, 129, 21, 4, 172]
abbrev dktX1_ships_1 : List UInt8 := dkwX1_ships_1 ++ []
def dkwX1_ships_0 : List UInt8 := [42, 27, 182, 0, 125, 78, 28, 42, 180, 0, 31, 182, 0, 100, 45, 180, 0, 129, 100, 184, 0, 132, 54, 4]
abbrev dktX1_ships_0 : List UInt8 := dkwX1_ships_0 ++ dktX1_ships_1
theorem dksX1_ships_0 : cX1_ships.data.toList.drop 0 = dktX1_ships_0 := by decide +kernel
theorem dksX1_ships_1 : cX1_ships.data.toList.drop 24 = dktX1_ships_1 := dk_seg dksX1_ships_0 24 rfl rfl
theorem dX1_ships_0 : decode cX1_ships 0 = .ok (.aload_n 0, 1) := dk_42 (dk_at dksX1_ships_0 0 rfl rfl)
theorem dX1_ships_1 : decode cX1_ships 1 = .ok (.iload_n 1, 1) := dk_27 (dk_at dksX1_ships_0 1 rfl rfl)
theorem dX1_ships_2 : decode cX1_ships 2 = .ok (.invokevirtual 125, 3) := dk_182 0 125 (dk_at dksX1_ships_0 2 rfl rfl)
theorem dX1_ships_5 : decode cX1_ships 5 = .ok (.astore_n 3, 1) := dk_78 (dk_at dksX1_ships_0 5 rfl rfl)
theorem dX1_ships_6 : decode cX1_ships 6 = .ok (.iload_n 2, 1) := dk_28 (dk_at dksX1_ships_0 6 rfl rfl)
theorem dX1_ships_7 : decode cX1_ships 7 = .ok (.aload_n 0, 1) := dk_42 (dk_at dksX1_ships_0 7 rfl rfl)
theorem dX1_ships_8 : decode cX1_ships 8 = .ok (.getfield 31, 3) := dk_180 0 31 (dk_at dksX1_ships_0 8 rfl rfl)
theorem dX1_ships_11 : decode cX1_ships 11 = .ok (.invokevirtual 100, 3) := dk_182 0 100 (dk_at dksX1_ships_0 11 rfl rfl)
theorem dX1_ships_14 : decode cX1_ships 14 = .ok (.aload_n 3, 1) := dk_45 (dk_at dksX1_ships_0 14 rfl rfl)
theorem dX1_ships_15 : decode cX1_ships 15 = .ok (.getfield 129, 3) := dk_180 0 129 (dk_at dksX1_ships_0 15 rfl rfl)
theorem dX1_ships_18 : decode cX1_ships 18 = .ok (.isub, 1) := dk_100 (dk_at dksX1_ships_0 18 rfl rfl)
theorem dX1_ships_19 : decode cX1_ships 19 = .ok (.invokestatic 132, 3) := dk_184 0 132 (dk_at dksX1_ships_0 19 rfl rfl)
theorem dX1_ships_22 : decode cX1_ships 22 = .ok (.istore 4, 2) := dk_54 4 (dk_at dksX1_ships_0 22 rfl rfl)
theorem dX1_ships_24 : decode cX1_ships 24 = .ok (.aload_n 3, 1) := dk_45 (dk_at dksX1_ships_1 0 rfl rfl)
theorem dX1_ships_25 : decode cX1_ships 25 = .ok (.dup, 1) := dk_89 (dk_at dksX1_ships_1 1 rfl rfl)
theorem dX1_ships_26 : decode cX1_ships 26 = .ok (.getfield 129, 3) := dk_180 0 129 (dk_at dksX1_ships_1 2 rfl rfl)
theorem dX1_ships_29 : decode cX1_ships 29 = .ok (.iload 4, 2) := dk_21 4 (dk_at dksX1_ships_1 5 rfl rfl)
theorem dX1_ships_31 : decode cX1_ships 31 = .ok (.iadd, 1) := dk_96 (dk_at dksX1_ships_1 7 rfl rfl)
theorem dX1_ships_32 : decode cX1_ships 32 = .ok (.putfield 129, 3) := dk_181 0 129 (dk_at dksX1_ships_1 8 rfl rfl)
theorem dX1_ships_35 : decode cX1_ships 35 = .ok (.iload 4, 2) := dk_21 4 (dk_at dksX1_ships_1 11 rfl rfl)
theorem dX1_ships_37 : decode cX1_ships 37 = .ok (.ireturn, 1) := dk_172 (dk_at dksX1_ships_1 13 rfl rfl)
abbrev cX1_well : ByteArray := prog_8_method_14_code
def yX1_well : MethodName := ⟨RX1, "well", "(I)LFencedStandbys$Standby;"⟩
def dkwX1_well_1 : List UInt8 := [180, 0, 17, 27, 50, 176]
abbrev dktX1_well_1 : List UInt8 := dkwX1_well_1 ++ []
def dkwX1_well_0 : List UInt8 := [42, 180, 0, 17, 27, 50, 180, 0, 121, 153, 0, 13, 187, 0, 104, 89, 18, 106, 183, 0, 107, 191, 42]
abbrev dktX1_well_0 : List UInt8 := dkwX1_well_0 ++ dktX1_well_1
theorem dksX1_well_0 : cX1_well.data.toList.drop 0 = dktX1_well_0 := by decide +kernel
theorem dksX1_well_1 : cX1_well.data.toList.drop 23 = dktX1_well_1 := dk_seg dksX1_well_0 23 rfl rfl
theorem dX1_well_0 : decode cX1_well 0 = .ok (.aload_n 0, 1) := dk_42 (dk_at dksX1_well_0 0 rfl rfl)
theorem dX1_well_1 : decode cX1_well 1 = .ok (.getfield 17, 3) := dk_180 0 17 (dk_at dksX1_well_0 1 rfl rfl)
theorem dX1_well_4 : decode cX1_well 4 = .ok (.iload_n 1, 1) := dk_27 (dk_at dksX1_well_0 4 rfl rfl)
theorem dX1_well_5 : decode cX1_well 5 = .ok (.aaload, 1) := dk_50 (dk_at dksX1_well_0 5 rfl rfl)
theorem dX1_well_6 : decode cX1_well 6 = .ok (.getfield 121, 3) := dk_180 0 121 (dk_at dksX1_well_0 6 rfl rfl)
theorem dX1_well_9 : decode cX1_well 9 = .ok (.ifCond .eq 13, 3) := dk_153 0 13 (dk_at dksX1_well_0 9 rfl rfl)
theorem dX1_well_12 : decode cX1_well 12 = .ok (.new 104, 3) := dk_187 0 104 (dk_at dksX1_well_0 12 rfl rfl)
theorem dX1_well_15 : decode cX1_well 15 = .ok (.dup, 1) := dk_89 (dk_at dksX1_well_0 15 rfl rfl)
theorem dX1_well_16 : decode cX1_well 16 = .ok (.ldc 106, 2) := dk_18 106 (dk_at dksX1_well_0 16 rfl rfl)
theorem dX1_well_18 : decode cX1_well 18 = .ok (.invokespecial 107, 3) := dk_183 0 107 (dk_at dksX1_well_0 18 rfl rfl)
theorem dX1_well_21 : decode cX1_well 21 = .ok (.athrow, 1) := dk_191 (dk_at dksX1_well_0 21 rfl rfl)
theorem dX1_well_22 : decode cX1_well 22 = .ok (.aload_n 0, 1) := dk_42 (dk_at dksX1_well_0 22 rfl rfl)
theorem dX1_well_23 : decode cX1_well 23 = .ok (.getfield 17, 3) := dk_180 0 17 (dk_at dksX1_well_1 0 rfl rfl)
theorem dX1_well_26 : decode cX1_well 26 = .ok (.iload_n 1, 1) := dk_27 (dk_at dksX1_well_1 3 rfl rfl)
theorem dX1_well_27 : decode cX1_well 27 = .ok (.aaload, 1) := dk_50 (dk_at dksX1_well_1 4 rfl rfl)
theorem dX1_well_28 : decode cX1_well 28 = .ok (.areturn, 1) := dk_176 (dk_at dksX1_well_1 5 rfl rfl)
abbrev cX1_loses : ByteArray := prog_8_method_16_code
def yX1_loses : MethodName := ⟨RX1, "loses", "(II)I"⟩
def dkwX1_loses_2 : List UInt8 := [28, 182, 0, 148, 42, 89, 180, 0, 62, 4, 96, 181, 0, 62, 45, 180, 0, 138, 182, 0, 151, 172]
abbrev dktX1_loses_2 : List UInt8 := dkwX1_loses_2 ++ []
def dkwX1_loses_1 : List UInt8 := [180, 0, 138, 28, 182, 0, 142, 153, 0, 13, 187, 0, 104, 89, 18, 106, 183, 0, 107, 191, 45, 180, 0, 138]
abbrev dktX1_loses_1 : List UInt8 := dkwX1_loses_1 ++ dktX1_loses_2
def dkwX1_loses_0 : List UInt8 := [42, 27, 182, 0, 125, 78, 28, 45, 180, 0, 129, 163, 0, 22, 28, 45, 180, 0, 137, 164, 0, 14, 45]
abbrev dktX1_loses_0 : List UInt8 := dkwX1_loses_0 ++ dktX1_loses_1
theorem dksX1_loses_0 : cX1_loses.data.toList.drop 0 = dktX1_loses_0 := by decide +kernel
theorem dksX1_loses_1 : cX1_loses.data.toList.drop 23 = dktX1_loses_1 := dk_seg dksX1_loses_0 23 rfl rfl
theorem dksX1_loses_2 : cX1_loses.data.toList.drop 47 = dktX1_loses_2 := dk_seg dksX1_loses_1 24 rfl rfl
theorem dX1_loses_0 : decode cX1_loses 0 = .ok (.aload_n 0, 1) := dk_42 (dk_at dksX1_loses_0 0 rfl rfl)
theorem dX1_loses_1 : decode cX1_loses 1 = .ok (.iload_n 1, 1) := dk_27 (dk_at dksX1_loses_0 1 rfl rfl)
theorem dX1_loses_2 : decode cX1_loses 2 = .ok (.invokevirtual 125, 3) := dk_182 0 125 (dk_at dksX1_loses_0 2 rfl rfl)
theorem dX1_loses_5 : decode cX1_loses 5 = .ok (.astore_n 3, 1) := dk_78 (dk_at dksX1_loses_0 5 rfl rfl)
theorem dX1_loses_6 : decode cX1_loses 6 = .ok (.iload_n 2, 1) := dk_28 (dk_at dksX1_loses_0 6 rfl rfl)
theorem dX1_loses_7 : decode cX1_loses 7 = .ok (.aload_n 3, 1) := dk_45 (dk_at dksX1_loses_0 7 rfl rfl)
theorem dX1_loses_8 : decode cX1_loses 8 = .ok (.getfield 129, 3) := dk_180 0 129 (dk_at dksX1_loses_0 8 rfl rfl)
theorem dX1_loses_11 : decode cX1_loses 11 = .ok (.if_icmp .gt 22, 3) := dk_163 0 22 (dk_at dksX1_loses_0 11 rfl rfl)
theorem dX1_loses_14 : decode cX1_loses 14 = .ok (.iload_n 2, 1) := dk_28 (dk_at dksX1_loses_0 14 rfl rfl)
theorem dX1_loses_15 : decode cX1_loses 15 = .ok (.aload_n 3, 1) := dk_45 (dk_at dksX1_loses_0 15 rfl rfl)
theorem dX1_loses_16 : decode cX1_loses 16 = .ok (.getfield 137, 3) := dk_180 0 137 (dk_at dksX1_loses_0 16 rfl rfl)
theorem dX1_loses_19 : decode cX1_loses 19 = .ok (.if_icmp .le 14, 3) := dk_164 0 14 (dk_at dksX1_loses_0 19 rfl rfl)
theorem dX1_loses_22 : decode cX1_loses 22 = .ok (.aload_n 3, 1) := dk_45 (dk_at dksX1_loses_0 22 rfl rfl)
theorem dX1_loses_23 : decode cX1_loses 23 = .ok (.getfield 138, 3) := dk_180 0 138 (dk_at dksX1_loses_1 0 rfl rfl)
theorem dX1_loses_26 : decode cX1_loses 26 = .ok (.iload_n 2, 1) := dk_28 (dk_at dksX1_loses_1 3 rfl rfl)
theorem dX1_loses_27 : decode cX1_loses 27 = .ok (.invokevirtual 142, 3) := dk_182 0 142 (dk_at dksX1_loses_1 4 rfl rfl)
theorem dX1_loses_30 : decode cX1_loses 30 = .ok (.ifCond .eq 13, 3) := dk_153 0 13 (dk_at dksX1_loses_1 7 rfl rfl)
theorem dX1_loses_33 : decode cX1_loses 33 = .ok (.new 104, 3) := dk_187 0 104 (dk_at dksX1_loses_1 10 rfl rfl)
theorem dX1_loses_36 : decode cX1_loses 36 = .ok (.dup, 1) := dk_89 (dk_at dksX1_loses_1 13 rfl rfl)
theorem dX1_loses_37 : decode cX1_loses 37 = .ok (.ldc 106, 2) := dk_18 106 (dk_at dksX1_loses_1 14 rfl rfl)
theorem dX1_loses_39 : decode cX1_loses 39 = .ok (.invokespecial 107, 3) := dk_183 0 107 (dk_at dksX1_loses_1 16 rfl rfl)
theorem dX1_loses_42 : decode cX1_loses 42 = .ok (.athrow, 1) := dk_191 (dk_at dksX1_loses_1 19 rfl rfl)
theorem dX1_loses_43 : decode cX1_loses 43 = .ok (.aload_n 3, 1) := dk_45 (dk_at dksX1_loses_1 20 rfl rfl)
theorem dX1_loses_44 : decode cX1_loses 44 = .ok (.getfield 138, 3) := dk_180 0 138 (dk_at dksX1_loses_1 21 rfl rfl)
theorem dX1_loses_47 : decode cX1_loses 47 = .ok (.iload_n 2, 1) := dk_28 (dk_at dksX1_loses_2 0 rfl rfl)
theorem dX1_loses_48 : decode cX1_loses 48 = .ok (.invokevirtual 148, 3) := dk_182 0 148 (dk_at dksX1_loses_2 1 rfl rfl)
theorem dX1_loses_51 : decode cX1_loses 51 = .ok (.aload_n 0, 1) := dk_42 (dk_at dksX1_loses_2 4 rfl rfl)
theorem dX1_loses_52 : decode cX1_loses 52 = .ok (.dup, 1) := dk_89 (dk_at dksX1_loses_2 5 rfl rfl)
theorem dX1_loses_53 : decode cX1_loses 53 = .ok (.getfield 62, 3) := dk_180 0 62 (dk_at dksX1_loses_2 6 rfl rfl)
theorem dX1_loses_56 : decode cX1_loses 56 = .ok (.iconst 1, 1) := dk_4 (dk_at dksX1_loses_2 9 rfl rfl)
theorem dX1_loses_57 : decode cX1_loses 57 = .ok (.iadd, 1) := dk_96 (dk_at dksX1_loses_2 10 rfl rfl)
theorem dX1_loses_58 : decode cX1_loses 58 = .ok (.putfield 62, 3) := dk_181 0 62 (dk_at dksX1_loses_2 11 rfl rfl)
theorem dX1_loses_61 : decode cX1_loses 61 = .ok (.aload_n 3, 1) := dk_45 (dk_at dksX1_loses_2 14 rfl rfl)
theorem dX1_loses_62 : decode cX1_loses 62 = .ok (.getfield 138, 3) := dk_180 0 138 (dk_at dksX1_loses_2 15 rfl rfl)
theorem dX1_loses_65 : decode cX1_loses 65 = .ok (.invokevirtual 151, 3) := dk_182 0 151 (dk_at dksX1_loses_2 18 rfl rfl)
theorem dX1_loses_68 : decode cX1_loses 68 = .ok (.ireturn, 1) := dk_172 (dk_at dksX1_loses_2 21 rfl rfl)
abbrev cX1_resends : ByteArray := prog_8_method_17_code
def yX1_resends : MethodName := ⟨RX1, "resends", "(I)I"⟩
def dkwX1_resends_0 : List UInt8 := [42, 27, 182, 0, 125, 77, 44, 180, 0, 138, 182, 0, 151, 62, 44, 180, 0, 138, 182, 0, 154, 29, 172]
abbrev dktX1_resends_0 : List UInt8 := dkwX1_resends_0 ++ []
theorem dksX1_resends_0 : cX1_resends.data.toList.drop 0 = dktX1_resends_0 := by decide +kernel
theorem dX1_resends_0 : decode cX1_resends 0 = .ok (.aload_n 0, 1) := dk_42 (dk_at dksX1_resends_0 0 rfl rfl)
theorem dX1_resends_1 : decode cX1_resends 1 = .ok (.iload_n 1, 1) := dk_27 (dk_at dksX1_resends_0 1 rfl rfl)
theorem dX1_resends_2 : decode cX1_resends 2 = .ok (.invokevirtual 125, 3) := dk_182 0 125 (dk_at dksX1_resends_0 2 rfl rfl)
theorem dX1_resends_5 : decode cX1_resends 5 = .ok (.astore_n 2, 1) := dk_77 (dk_at dksX1_resends_0 5 rfl rfl)
theorem dX1_resends_6 : decode cX1_resends 6 = .ok (.aload_n 2, 1) := dk_44 (dk_at dksX1_resends_0 6 rfl rfl)
theorem dX1_resends_7 : decode cX1_resends 7 = .ok (.getfield 138, 3) := dk_180 0 138 (dk_at dksX1_resends_0 7 rfl rfl)
theorem dX1_resends_10 : decode cX1_resends 10 = .ok (.invokevirtual 151, 3) := dk_182 0 151 (dk_at dksX1_resends_0 10 rfl rfl)
theorem dX1_resends_13 : decode cX1_resends 13 = .ok (.istore_n 3, 1) := dk_62 (dk_at dksX1_resends_0 13 rfl rfl)
theorem dX1_resends_14 : decode cX1_resends 14 = .ok (.aload_n 2, 1) := dk_44 (dk_at dksX1_resends_0 14 rfl rfl)
theorem dX1_resends_15 : decode cX1_resends 15 = .ok (.getfield 138, 3) := dk_180 0 138 (dk_at dksX1_resends_0 15 rfl rfl)
theorem dX1_resends_18 : decode cX1_resends 18 = .ok (.invokevirtual 154, 3) := dk_182 0 154 (dk_at dksX1_resends_0 18 rfl rfl)
theorem dX1_resends_21 : decode cX1_resends 21 = .ok (.iload_n 3, 1) := dk_29 (dk_at dksX1_resends_0 21 rfl rfl)
theorem dX1_resends_22 : decode cX1_resends 22 = .ok (.ireturn, 1) := dk_172 (dk_at dksX1_resends_0 22 rfl rfl)
abbrev cX1_promotes : ByteArray := prog_8_method_21_code
def yX1_promotes : MethodName := ⟨RX1, "promotes", "(I)I"⟩
def dkwX1_promotes_4 : List UInt8 := [182, 0, 181, 42, 180, 0, 17, 4, 27, 100, 50, 28, 182, 0, 185, 29, 172]
abbrev dktX1_promotes_4 : List UInt8 := dkwX1_promotes_4 ++ []
def dkwX1_promotes_3 : List UInt8 := [180, 0, 9, 21, 5, 2, 79, 132, 5, 1, 167, 255, 239, 42, 180, 0, 17, 27, 50, 28, 21, 4]
abbrev dktX1_promotes_3 : List UInt8 := dkwX1_promotes_3 ++ dktX1_promotes_4
def dkwX1_promotes_2 : List UInt8 := [96, 181, 0, 59, 42, 89, 180, 0, 24, 4, 96, 181, 0, 24, 3, 54, 5, 21, 5, 6, 162, 0, 17, 42]
abbrev dktX1_promotes_2 : List UInt8 := dkwX1_promotes_2 ++ dktX1_promotes_3
def dkwX1_promotes_1 : List UInt8 := [164, 0, 7, 4, 167, 0, 4, 3, 54, 4, 42, 180, 0, 31, 28, 182, 0, 178, 42, 89, 180, 0, 59, 29]
abbrev dktX1_promotes_1 : List UInt8 := dkwX1_promotes_1 ++ dktX1_promotes_2
def dkwX1_promotes_0 : List UInt8 := [42, 27, 182, 0, 125, 180, 0, 137, 61, 42, 28, 182, 0, 174, 62, 42, 180, 0, 31, 182, 0, 100, 28]
abbrev dktX1_promotes_0 : List UInt8 := dkwX1_promotes_0 ++ dktX1_promotes_1
theorem dksX1_promotes_0 : cX1_promotes.data.toList.drop 0 = dktX1_promotes_0 := by decide +kernel
theorem dksX1_promotes_1 : cX1_promotes.data.toList.drop 23 = dktX1_promotes_1 := dk_seg dksX1_promotes_0 23 rfl rfl
theorem dksX1_promotes_2 : cX1_promotes.data.toList.drop 47 = dktX1_promotes_2 := dk_seg dksX1_promotes_1 24 rfl rfl
theorem dksX1_promotes_3 : cX1_promotes.data.toList.drop 71 = dktX1_promotes_3 := dk_seg dksX1_promotes_2 24 rfl rfl
theorem dksX1_promotes_4 : cX1_promotes.data.toList.drop 93 = dktX1_promotes_4 := dk_seg dksX1_promotes_3 22 rfl rfl
theorem dX1_promotes_0 : decode cX1_promotes 0 = .ok (.aload_n 0, 1) := dk_42 (dk_at dksX1_promotes_0 0 rfl rfl)
theorem dX1_promotes_1 : decode cX1_promotes 1 = .ok (.iload_n 1, 1) := dk_27 (dk_at dksX1_promotes_0 1 rfl rfl)
theorem dX1_promotes_2 : decode cX1_promotes 2 = .ok (.invokevirtual 125, 3) := dk_182 0 125 (dk_at dksX1_promotes_0 2 rfl rfl)
theorem dX1_promotes_5 : decode cX1_promotes 5 = .ok (.getfield 137, 3) := dk_180 0 137 (dk_at dksX1_promotes_0 5 rfl rfl)
theorem dX1_promotes_8 : decode cX1_promotes 8 = .ok (.istore_n 2, 1) := dk_61 (dk_at dksX1_promotes_0 8 rfl rfl)
theorem dX1_promotes_9 : decode cX1_promotes 9 = .ok (.aload_n 0, 1) := dk_42 (dk_at dksX1_promotes_0 9 rfl rfl)
theorem dX1_promotes_10 : decode cX1_promotes 10 = .ok (.iload_n 2, 1) := dk_28 (dk_at dksX1_promotes_0 10 rfl rfl)
theorem dX1_promotes_11 : decode cX1_promotes 11 = .ok (.invokevirtual 174, 3) := dk_182 0 174 (dk_at dksX1_promotes_0 11 rfl rfl)
theorem dX1_promotes_14 : decode cX1_promotes 14 = .ok (.istore_n 3, 1) := dk_62 (dk_at dksX1_promotes_0 14 rfl rfl)
theorem dX1_promotes_15 : decode cX1_promotes 15 = .ok (.aload_n 0, 1) := dk_42 (dk_at dksX1_promotes_0 15 rfl rfl)
theorem dX1_promotes_16 : decode cX1_promotes 16 = .ok (.getfield 31, 3) := dk_180 0 31 (dk_at dksX1_promotes_0 16 rfl rfl)
theorem dX1_promotes_19 : decode cX1_promotes 19 = .ok (.invokevirtual 100, 3) := dk_182 0 100 (dk_at dksX1_promotes_0 19 rfl rfl)
theorem dX1_promotes_22 : decode cX1_promotes 22 = .ok (.iload_n 2, 1) := dk_28 (dk_at dksX1_promotes_0 22 rfl rfl)
theorem dX1_promotes_23 : decode cX1_promotes 23 = .ok (.if_icmp .le 7, 3) := dk_164 0 7 (dk_at dksX1_promotes_1 0 rfl rfl)
theorem dX1_promotes_26 : decode cX1_promotes 26 = .ok (.iconst 1, 1) := dk_4 (dk_at dksX1_promotes_1 3 rfl rfl)
theorem dX1_promotes_27 : decode cX1_promotes 27 = .ok (.goto 4, 3) := dk_167 0 4 (dk_at dksX1_promotes_1 4 rfl rfl)
theorem dX1_promotes_30 : decode cX1_promotes 30 = .ok (.iconst 0, 1) := dk_3 (dk_at dksX1_promotes_1 7 rfl rfl)
theorem dX1_promotes_31 : decode cX1_promotes 31 = .ok (.istore 4, 2) := dk_54 4 (dk_at dksX1_promotes_1 8 rfl rfl)
theorem dX1_promotes_33 : decode cX1_promotes 33 = .ok (.aload_n 0, 1) := dk_42 (dk_at dksX1_promotes_1 10 rfl rfl)
theorem dX1_promotes_34 : decode cX1_promotes 34 = .ok (.getfield 31, 3) := dk_180 0 31 (dk_at dksX1_promotes_1 11 rfl rfl)
theorem dX1_promotes_37 : decode cX1_promotes 37 = .ok (.iload_n 2, 1) := dk_28 (dk_at dksX1_promotes_1 14 rfl rfl)
theorem dX1_promotes_38 : decode cX1_promotes 38 = .ok (.invokevirtual 178, 3) := dk_182 0 178 (dk_at dksX1_promotes_1 15 rfl rfl)
theorem dX1_promotes_41 : decode cX1_promotes 41 = .ok (.aload_n 0, 1) := dk_42 (dk_at dksX1_promotes_1 18 rfl rfl)
theorem dX1_promotes_42 : decode cX1_promotes 42 = .ok (.dup, 1) := dk_89 (dk_at dksX1_promotes_1 19 rfl rfl)
theorem dX1_promotes_43 : decode cX1_promotes 43 = .ok (.getfield 59, 3) := dk_180 0 59 (dk_at dksX1_promotes_1 20 rfl rfl)
theorem dX1_promotes_46 : decode cX1_promotes 46 = .ok (.iload_n 3, 1) := dk_29 (dk_at dksX1_promotes_1 23 rfl rfl)
theorem dX1_promotes_47 : decode cX1_promotes 47 = .ok (.iadd, 1) := dk_96 (dk_at dksX1_promotes_2 0 rfl rfl)
theorem dX1_promotes_48 : decode cX1_promotes 48 = .ok (.putfield 59, 3) := dk_181 0 59 (dk_at dksX1_promotes_2 1 rfl rfl)
theorem dX1_promotes_51 : decode cX1_promotes 51 = .ok (.aload_n 0, 1) := dk_42 (dk_at dksX1_promotes_2 4 rfl rfl)
theorem dX1_promotes_52 : decode cX1_promotes 52 = .ok (.dup, 1) := dk_89 (dk_at dksX1_promotes_2 5 rfl rfl)
theorem dX1_promotes_53 : decode cX1_promotes 53 = .ok (.getfield 24, 3) := dk_180 0 24 (dk_at dksX1_promotes_2 6 rfl rfl)
theorem dX1_promotes_56 : decode cX1_promotes 56 = .ok (.iconst 1, 1) := dk_4 (dk_at dksX1_promotes_2 9 rfl rfl)
theorem dX1_promotes_57 : decode cX1_promotes 57 = .ok (.iadd, 1) := dk_96 (dk_at dksX1_promotes_2 10 rfl rfl)
theorem dX1_promotes_58 : decode cX1_promotes 58 = .ok (.putfield 24, 3) := dk_181 0 24 (dk_at dksX1_promotes_2 11 rfl rfl)
theorem dX1_promotes_61 : decode cX1_promotes 61 = .ok (.iconst 0, 1) := dk_3 (dk_at dksX1_promotes_2 14 rfl rfl)
theorem dX1_promotes_62 : decode cX1_promotes 62 = .ok (.istore 5, 2) := dk_54 5 (dk_at dksX1_promotes_2 15 rfl rfl)
theorem dX1_promotes_64 : decode cX1_promotes 64 = .ok (.iload 5, 2) := dk_21 5 (dk_at dksX1_promotes_2 17 rfl rfl)
theorem dX1_promotes_66 : decode cX1_promotes 66 = .ok (.iconst 3, 1) := dk_6 (dk_at dksX1_promotes_2 19 rfl rfl)
theorem dX1_promotes_67 : decode cX1_promotes 67 = .ok (.if_icmp .ge 17, 3) := dk_162 0 17 (dk_at dksX1_promotes_2 20 rfl rfl)
theorem dX1_promotes_70 : decode cX1_promotes 70 = .ok (.aload_n 0, 1) := dk_42 (dk_at dksX1_promotes_2 23 rfl rfl)
theorem dX1_promotes_71 : decode cX1_promotes 71 = .ok (.getfield 9, 3) := dk_180 0 9 (dk_at dksX1_promotes_3 0 rfl rfl)
theorem dX1_promotes_74 : decode cX1_promotes 74 = .ok (.iload 5, 2) := dk_21 5 (dk_at dksX1_promotes_3 3 rfl rfl)
theorem dX1_promotes_76 : decode cX1_promotes 76 = .ok (.iconst (-1), 1) := dk_2 (dk_at dksX1_promotes_3 5 rfl rfl)
theorem dX1_promotes_77 : decode cX1_promotes 77 = .ok (.iastore, 1) := dk_79 (dk_at dksX1_promotes_3 6 rfl rfl)
theorem dX1_promotes_78 : decode cX1_promotes 78 = .ok (.iinc 5 1, 3) := dk_132 5 1 (dk_at dksX1_promotes_3 7 rfl rfl)
theorem dX1_promotes_81 : decode cX1_promotes 81 = .ok (.goto (-17), 3) := dk_167 255 239 (dk_at dksX1_promotes_3 10 rfl rfl)
theorem dX1_promotes_84 : decode cX1_promotes 84 = .ok (.aload_n 0, 1) := dk_42 (dk_at dksX1_promotes_3 13 rfl rfl)
theorem dX1_promotes_85 : decode cX1_promotes 85 = .ok (.getfield 17, 3) := dk_180 0 17 (dk_at dksX1_promotes_3 14 rfl rfl)
theorem dX1_promotes_88 : decode cX1_promotes 88 = .ok (.iload_n 1, 1) := dk_27 (dk_at dksX1_promotes_3 17 rfl rfl)
theorem dX1_promotes_89 : decode cX1_promotes 89 = .ok (.aaload, 1) := dk_50 (dk_at dksX1_promotes_3 18 rfl rfl)
theorem dX1_promotes_90 : decode cX1_promotes 90 = .ok (.iload_n 2, 1) := dk_28 (dk_at dksX1_promotes_3 19 rfl rfl)
theorem dX1_promotes_91 : decode cX1_promotes 91 = .ok (.iload 4, 2) := dk_21 4 (dk_at dksX1_promotes_3 20 rfl rfl)
theorem dX1_promotes_93 : decode cX1_promotes 93 = .ok (.invokevirtual 181, 3) := dk_182 0 181 (dk_at dksX1_promotes_4 0 rfl rfl)
theorem dX1_promotes_96 : decode cX1_promotes 96 = .ok (.aload_n 0, 1) := dk_42 (dk_at dksX1_promotes_4 3 rfl rfl)
theorem dX1_promotes_97 : decode cX1_promotes 97 = .ok (.getfield 17, 3) := dk_180 0 17 (dk_at dksX1_promotes_4 4 rfl rfl)
theorem dX1_promotes_100 : decode cX1_promotes 100 = .ok (.iconst 1, 1) := dk_4 (dk_at dksX1_promotes_4 7 rfl rfl)
theorem dX1_promotes_101 : decode cX1_promotes 101 = .ok (.iload_n 1, 1) := dk_27 (dk_at dksX1_promotes_4 8 rfl rfl)
theorem dX1_promotes_102 : decode cX1_promotes 102 = .ok (.isub, 1) := dk_100 (dk_at dksX1_promotes_4 9 rfl rfl)
theorem dX1_promotes_103 : decode cX1_promotes 103 = .ok (.aaload, 1) := dk_50 (dk_at dksX1_promotes_4 10 rfl rfl)
theorem dX1_promotes_104 : decode cX1_promotes 104 = .ok (.iload_n 2, 1) := dk_28 (dk_at dksX1_promotes_4 11 rfl rfl)
theorem dX1_promotes_105 : decode cX1_promotes 105 = .ok (.invokevirtual 185, 3) := dk_182 0 185 (dk_at dksX1_promotes_4 12 rfl rfl)
theorem dX1_promotes_108 : decode cX1_promotes 108 = .ok (.iload_n 3, 1) := dk_29 (dk_at dksX1_promotes_4 15 rfl rfl)
theorem dX1_promotes_109 : decode cX1_promotes 109 = .ok (.ireturn, 1) := dk_172 (dk_at dksX1_promotes_4 16 rfl rfl)
abbrev cX1_commitsBehind : ByteArray := prog_8_method_7_code
def yX1_commitsBehind : MethodName := ⟨RX1, "commitsBehind", "(I)I"⟩
def dkwX1_commitsBehind_2 : List UInt8 := [167, 255, 216, 28, 172]
abbrev dktX1_commitsBehind_2 : List UInt8 := dkwX1_commitsBehind_2 ++ []
def dkwX1_commitsBehind_1 : List UInt8 := [182, 0, 68, 192, 0, 72, 180, 0, 84, 4, 160, 0, 7, 4, 167, 0, 4, 3, 96, 61, 132, 3, 1]
abbrev dktX1_commitsBehind_1 : List UInt8 := dkwX1_commitsBehind_1 ++ dktX1_commitsBehind_2
def dkwX1_commitsBehind_0 : List UInt8 := [3, 61, 27, 4, 96, 62, 29, 42, 180, 0, 31, 182, 0, 100, 163, 0, 35, 28, 42, 180, 0, 31, 29]
abbrev dktX1_commitsBehind_0 : List UInt8 := dkwX1_commitsBehind_0 ++ dktX1_commitsBehind_1
theorem dksX1_commitsBehind_0 : cX1_commitsBehind.data.toList.drop 0 = dktX1_commitsBehind_0 := by decide +kernel
theorem dksX1_commitsBehind_1 : cX1_commitsBehind.data.toList.drop 23 = dktX1_commitsBehind_1 := dk_seg dksX1_commitsBehind_0 23 rfl rfl
theorem dksX1_commitsBehind_2 : cX1_commitsBehind.data.toList.drop 46 = dktX1_commitsBehind_2 := dk_seg dksX1_commitsBehind_1 23 rfl rfl
theorem dX1_commitsBehind_0 : decode cX1_commitsBehind 0 = .ok (.iconst 0, 1) := dk_3 (dk_at dksX1_commitsBehind_0 0 rfl rfl)
theorem dX1_commitsBehind_1 : decode cX1_commitsBehind 1 = .ok (.istore_n 2, 1) := dk_61 (dk_at dksX1_commitsBehind_0 1 rfl rfl)
theorem dX1_commitsBehind_2 : decode cX1_commitsBehind 2 = .ok (.iload_n 1, 1) := dk_27 (dk_at dksX1_commitsBehind_0 2 rfl rfl)
theorem dX1_commitsBehind_3 : decode cX1_commitsBehind 3 = .ok (.iconst 1, 1) := dk_4 (dk_at dksX1_commitsBehind_0 3 rfl rfl)
theorem dX1_commitsBehind_4 : decode cX1_commitsBehind 4 = .ok (.iadd, 1) := dk_96 (dk_at dksX1_commitsBehind_0 4 rfl rfl)
theorem dX1_commitsBehind_5 : decode cX1_commitsBehind 5 = .ok (.istore_n 3, 1) := dk_62 (dk_at dksX1_commitsBehind_0 5 rfl rfl)
theorem dX1_commitsBehind_6 : decode cX1_commitsBehind 6 = .ok (.iload_n 3, 1) := dk_29 (dk_at dksX1_commitsBehind_0 6 rfl rfl)
theorem dX1_commitsBehind_7 : decode cX1_commitsBehind 7 = .ok (.aload_n 0, 1) := dk_42 (dk_at dksX1_commitsBehind_0 7 rfl rfl)
theorem dX1_commitsBehind_8 : decode cX1_commitsBehind 8 = .ok (.getfield 31, 3) := dk_180 0 31 (dk_at dksX1_commitsBehind_0 8 rfl rfl)
theorem dX1_commitsBehind_11 : decode cX1_commitsBehind 11 = .ok (.invokevirtual 100, 3) := dk_182 0 100 (dk_at dksX1_commitsBehind_0 11 rfl rfl)
theorem dX1_commitsBehind_14 : decode cX1_commitsBehind 14 = .ok (.if_icmp .gt 35, 3) := dk_163 0 35 (dk_at dksX1_commitsBehind_0 14 rfl rfl)
theorem dX1_commitsBehind_17 : decode cX1_commitsBehind 17 = .ok (.iload_n 2, 1) := dk_28 (dk_at dksX1_commitsBehind_0 17 rfl rfl)
theorem dX1_commitsBehind_18 : decode cX1_commitsBehind 18 = .ok (.aload_n 0, 1) := dk_42 (dk_at dksX1_commitsBehind_0 18 rfl rfl)
theorem dX1_commitsBehind_19 : decode cX1_commitsBehind 19 = .ok (.getfield 31, 3) := dk_180 0 31 (dk_at dksX1_commitsBehind_0 19 rfl rfl)
theorem dX1_commitsBehind_22 : decode cX1_commitsBehind 22 = .ok (.iload_n 3, 1) := dk_29 (dk_at dksX1_commitsBehind_0 22 rfl rfl)
theorem dX1_commitsBehind_23 : decode cX1_commitsBehind 23 = .ok (.invokevirtual 68, 3) := dk_182 0 68 (dk_at dksX1_commitsBehind_1 0 rfl rfl)
theorem dX1_commitsBehind_26 : decode cX1_commitsBehind 26 = .ok (.checkcast 72, 3) := dk_192 0 72 (dk_at dksX1_commitsBehind_1 3 rfl rfl)
theorem dX1_commitsBehind_29 : decode cX1_commitsBehind 29 = .ok (.getfield 84, 3) := dk_180 0 84 (dk_at dksX1_commitsBehind_1 6 rfl rfl)
theorem dX1_commitsBehind_32 : decode cX1_commitsBehind 32 = .ok (.iconst 1, 1) := dk_4 (dk_at dksX1_commitsBehind_1 9 rfl rfl)
theorem dX1_commitsBehind_33 : decode cX1_commitsBehind 33 = .ok (.if_icmp .ne 7, 3) := dk_160 0 7 (dk_at dksX1_commitsBehind_1 10 rfl rfl)
theorem dX1_commitsBehind_36 : decode cX1_commitsBehind 36 = .ok (.iconst 1, 1) := dk_4 (dk_at dksX1_commitsBehind_1 13 rfl rfl)
theorem dX1_commitsBehind_37 : decode cX1_commitsBehind 37 = .ok (.goto 4, 3) := dk_167 0 4 (dk_at dksX1_commitsBehind_1 14 rfl rfl)
theorem dX1_commitsBehind_40 : decode cX1_commitsBehind 40 = .ok (.iconst 0, 1) := dk_3 (dk_at dksX1_commitsBehind_1 17 rfl rfl)
theorem dX1_commitsBehind_41 : decode cX1_commitsBehind 41 = .ok (.iadd, 1) := dk_96 (dk_at dksX1_commitsBehind_1 18 rfl rfl)
theorem dX1_commitsBehind_42 : decode cX1_commitsBehind 42 = .ok (.istore_n 2, 1) := dk_61 (dk_at dksX1_commitsBehind_1 19 rfl rfl)
theorem dX1_commitsBehind_43 : decode cX1_commitsBehind 43 = .ok (.iinc 3 1, 3) := dk_132 3 1 (dk_at dksX1_commitsBehind_1 20 rfl rfl)
theorem dX1_commitsBehind_46 : decode cX1_commitsBehind 46 = .ok (.goto (-40), 3) := dk_167 255 216 (dk_at dksX1_commitsBehind_2 0 rfl rfl)
theorem dX1_commitsBehind_49 : decode cX1_commitsBehind 49 = .ok (.iload_n 2, 1) := dk_28 (dk_at dksX1_commitsBehind_2 3 rfl rfl)
theorem dX1_commitsBehind_50 : decode cX1_commitsBehind 50 = .ok (.ireturn, 1) := dk_172 (dk_at dksX1_commitsBehind_2 4 rfl rfl)
abbrev cX1_passes : ByteArray := prog_8_method_20_code
def yX1_passes : MethodName := ⟨RX1, "passes", "(I)I"⟩
def dkwX1_passes_4 : List UInt8 := [100, 172]
abbrev dktX1_passes_4 : List UInt8 := dkwX1_passes_4 ++ []
def dkwX1_passes_3 : List UInt8 := [182, 0, 170, 96, 181, 0, 65, 132, 6, 1, 167, 255, 212, 132, 3, 1, 167, 255, 177, 42, 180, 0, 65, 28]
abbrev dktX1_passes_3 : List UInt8 := dkwX1_passes_3 ++ dktX1_passes_4
def dkwX1_passes_2 : List UInt8 := [50, 58, 7, 42, 89, 180, 0, 65, 25, 7, 180, 0, 121, 153, 0, 7, 3, 167, 0, 9, 42, 25, 7]
abbrev dktX1_passes_2 : List UInt8 := dkwX1_passes_2 ++ dktX1_passes_3
def dkwX1_passes_1 : List UInt8 := [180, 0, 17, 58, 4, 25, 4, 190, 54, 5, 3, 54, 6, 21, 6, 21, 5, 162, 0, 43, 25, 4, 21, 6]
abbrev dktX1_passes_1 : List UInt8 := dkwX1_passes_1 ++ dktX1_passes_2
def dkwX1_passes_0 : List UInt8 := [42, 180, 0, 65, 61, 3, 62, 29, 27, 162, 0, 80, 42, 89, 180, 0, 53, 4, 96, 181, 0, 53, 42]
abbrev dktX1_passes_0 : List UInt8 := dkwX1_passes_0 ++ dktX1_passes_1
theorem dksX1_passes_0 : cX1_passes.data.toList.drop 0 = dktX1_passes_0 := by decide +kernel
theorem dksX1_passes_1 : cX1_passes.data.toList.drop 23 = dktX1_passes_1 := dk_seg dksX1_passes_0 23 rfl rfl
theorem dksX1_passes_2 : cX1_passes.data.toList.drop 47 = dktX1_passes_2 := dk_seg dksX1_passes_1 24 rfl rfl
theorem dksX1_passes_3 : cX1_passes.data.toList.drop 70 = dktX1_passes_3 := dk_seg dksX1_passes_2 23 rfl rfl
theorem dksX1_passes_4 : cX1_passes.data.toList.drop 94 = dktX1_passes_4 := dk_seg dksX1_passes_3 24 rfl rfl
theorem dX1_passes_0 : decode cX1_passes 0 = .ok (.aload_n 0, 1) := dk_42 (dk_at dksX1_passes_0 0 rfl rfl)
theorem dX1_passes_1 : decode cX1_passes 1 = .ok (.getfield 65, 3) := dk_180 0 65 (dk_at dksX1_passes_0 1 rfl rfl)
theorem dX1_passes_4 : decode cX1_passes 4 = .ok (.istore_n 2, 1) := dk_61 (dk_at dksX1_passes_0 4 rfl rfl)
theorem dX1_passes_5 : decode cX1_passes 5 = .ok (.iconst 0, 1) := dk_3 (dk_at dksX1_passes_0 5 rfl rfl)
theorem dX1_passes_6 : decode cX1_passes 6 = .ok (.istore_n 3, 1) := dk_62 (dk_at dksX1_passes_0 6 rfl rfl)
theorem dX1_passes_7 : decode cX1_passes 7 = .ok (.iload_n 3, 1) := dk_29 (dk_at dksX1_passes_0 7 rfl rfl)
theorem dX1_passes_8 : decode cX1_passes 8 = .ok (.iload_n 1, 1) := dk_27 (dk_at dksX1_passes_0 8 rfl rfl)
theorem dX1_passes_9 : decode cX1_passes 9 = .ok (.if_icmp .ge 80, 3) := dk_162 0 80 (dk_at dksX1_passes_0 9 rfl rfl)
theorem dX1_passes_12 : decode cX1_passes 12 = .ok (.aload_n 0, 1) := dk_42 (dk_at dksX1_passes_0 12 rfl rfl)
theorem dX1_passes_13 : decode cX1_passes 13 = .ok (.dup, 1) := dk_89 (dk_at dksX1_passes_0 13 rfl rfl)
theorem dX1_passes_14 : decode cX1_passes 14 = .ok (.getfield 53, 3) := dk_180 0 53 (dk_at dksX1_passes_0 14 rfl rfl)
theorem dX1_passes_17 : decode cX1_passes 17 = .ok (.iconst 1, 1) := dk_4 (dk_at dksX1_passes_0 17 rfl rfl)
theorem dX1_passes_18 : decode cX1_passes 18 = .ok (.iadd, 1) := dk_96 (dk_at dksX1_passes_0 18 rfl rfl)
theorem dX1_passes_19 : decode cX1_passes 19 = .ok (.putfield 53, 3) := dk_181 0 53 (dk_at dksX1_passes_0 19 rfl rfl)
theorem dX1_passes_22 : decode cX1_passes 22 = .ok (.aload_n 0, 1) := dk_42 (dk_at dksX1_passes_0 22 rfl rfl)
theorem dX1_passes_23 : decode cX1_passes 23 = .ok (.getfield 17, 3) := dk_180 0 17 (dk_at dksX1_passes_1 0 rfl rfl)
theorem dX1_passes_26 : decode cX1_passes 26 = .ok (.astore 4, 2) := dk_58 4 (dk_at dksX1_passes_1 3 rfl rfl)
theorem dX1_passes_28 : decode cX1_passes 28 = .ok (.aload 4, 2) := dk_25 4 (dk_at dksX1_passes_1 5 rfl rfl)
theorem dX1_passes_30 : decode cX1_passes 30 = .ok (.arraylength, 1) := dk_190 (dk_at dksX1_passes_1 7 rfl rfl)
theorem dX1_passes_31 : decode cX1_passes 31 = .ok (.istore 5, 2) := dk_54 5 (dk_at dksX1_passes_1 8 rfl rfl)
theorem dX1_passes_33 : decode cX1_passes 33 = .ok (.iconst 0, 1) := dk_3 (dk_at dksX1_passes_1 10 rfl rfl)
theorem dX1_passes_34 : decode cX1_passes 34 = .ok (.istore 6, 2) := dk_54 6 (dk_at dksX1_passes_1 11 rfl rfl)
theorem dX1_passes_36 : decode cX1_passes 36 = .ok (.iload 6, 2) := dk_21 6 (dk_at dksX1_passes_1 13 rfl rfl)
theorem dX1_passes_38 : decode cX1_passes 38 = .ok (.iload 5, 2) := dk_21 5 (dk_at dksX1_passes_1 15 rfl rfl)
theorem dX1_passes_40 : decode cX1_passes 40 = .ok (.if_icmp .ge 43, 3) := dk_162 0 43 (dk_at dksX1_passes_1 17 rfl rfl)
theorem dX1_passes_43 : decode cX1_passes 43 = .ok (.aload 4, 2) := dk_25 4 (dk_at dksX1_passes_1 20 rfl rfl)
theorem dX1_passes_45 : decode cX1_passes 45 = .ok (.iload 6, 2) := dk_21 6 (dk_at dksX1_passes_1 22 rfl rfl)
theorem dX1_passes_47 : decode cX1_passes 47 = .ok (.aaload, 1) := dk_50 (dk_at dksX1_passes_2 0 rfl rfl)
theorem dX1_passes_48 : decode cX1_passes 48 = .ok (.astore 7, 2) := dk_58 7 (dk_at dksX1_passes_2 1 rfl rfl)
theorem dX1_passes_50 : decode cX1_passes 50 = .ok (.aload_n 0, 1) := dk_42 (dk_at dksX1_passes_2 3 rfl rfl)
theorem dX1_passes_51 : decode cX1_passes 51 = .ok (.dup, 1) := dk_89 (dk_at dksX1_passes_2 4 rfl rfl)
theorem dX1_passes_52 : decode cX1_passes 52 = .ok (.getfield 65, 3) := dk_180 0 65 (dk_at dksX1_passes_2 5 rfl rfl)
theorem dX1_passes_55 : decode cX1_passes 55 = .ok (.aload 7, 2) := dk_25 7 (dk_at dksX1_passes_2 8 rfl rfl)
theorem dX1_passes_57 : decode cX1_passes 57 = .ok (.getfield 121, 3) := dk_180 0 121 (dk_at dksX1_passes_2 10 rfl rfl)
theorem dX1_passes_60 : decode cX1_passes 60 = .ok (.ifCond .eq 7, 3) := dk_153 0 7 (dk_at dksX1_passes_2 13 rfl rfl)
theorem dX1_passes_63 : decode cX1_passes 63 = .ok (.iconst 0, 1) := dk_3 (dk_at dksX1_passes_2 16 rfl rfl)
theorem dX1_passes_64 : decode cX1_passes 64 = .ok (.goto 9, 3) := dk_167 0 9 (dk_at dksX1_passes_2 17 rfl rfl)
theorem dX1_passes_67 : decode cX1_passes 67 = .ok (.aload_n 0, 1) := dk_42 (dk_at dksX1_passes_2 20 rfl rfl)
theorem dX1_passes_68 : decode cX1_passes 68 = .ok (.aload 7, 2) := dk_25 7 (dk_at dksX1_passes_2 21 rfl rfl)
theorem dX1_passes_70 : decode cX1_passes 70 = .ok (.invokevirtual 170, 3) := dk_182 0 170 (dk_at dksX1_passes_3 0 rfl rfl)
theorem dX1_passes_73 : decode cX1_passes 73 = .ok (.iadd, 1) := dk_96 (dk_at dksX1_passes_3 3 rfl rfl)
theorem dX1_passes_74 : decode cX1_passes 74 = .ok (.putfield 65, 3) := dk_181 0 65 (dk_at dksX1_passes_3 4 rfl rfl)
theorem dX1_passes_77 : decode cX1_passes 77 = .ok (.iinc 6 1, 3) := dk_132 6 1 (dk_at dksX1_passes_3 7 rfl rfl)
theorem dX1_passes_80 : decode cX1_passes 80 = .ok (.goto (-44), 3) := dk_167 255 212 (dk_at dksX1_passes_3 10 rfl rfl)
theorem dX1_passes_83 : decode cX1_passes 83 = .ok (.iinc 3 1, 3) := dk_132 3 1 (dk_at dksX1_passes_3 13 rfl rfl)
theorem dX1_passes_86 : decode cX1_passes 86 = .ok (.goto (-79), 3) := dk_167 255 177 (dk_at dksX1_passes_3 16 rfl rfl)
theorem dX1_passes_89 : decode cX1_passes 89 = .ok (.aload_n 0, 1) := dk_42 (dk_at dksX1_passes_3 19 rfl rfl)
theorem dX1_passes_90 : decode cX1_passes 90 = .ok (.getfield 65, 3) := dk_180 0 65 (dk_at dksX1_passes_3 20 rfl rfl)
theorem dX1_passes_93 : decode cX1_passes 93 = .ok (.iload_n 2, 1) := dk_28 (dk_at dksX1_passes_3 23 rfl rfl)
theorem dX1_passes_94 : decode cX1_passes 94 = .ok (.isub, 1) := dk_100 (dk_at dksX1_passes_4 0 rfl rfl)
theorem dX1_passes_95 : decode cX1_passes 95 = .ok (.ireturn, 1) := dk_172 (dk_at dksX1_passes_4 1 rfl rfl)
abbrev cX1_applies : ByteArray := prog_8_method_19_code
def yX1_applies : MethodName := ⟨RX1, "applies", "(LFencedStandbys$Standby;)I"⟩
def dkwX1_applies_1 : List UInt8 := [180, 0, 137, 4, 96, 181, 0, 137, 132, 2, 1, 167, 255, 225, 28, 172]
abbrev dktX1_applies_1 : List UInt8 := dkwX1_applies_1 ++ []
def dkwX1_applies_0 : List UInt8 := [3, 61, 28, 42, 180, 0, 21, 3, 46, 162, 0, 27, 42, 43, 182, 0, 166, 153, 0, 19, 43, 89]
abbrev dktX1_applies_0 : List UInt8 := dkwX1_applies_0 ++ dktX1_applies_1
theorem dksX1_applies_0 : cX1_applies.data.toList.drop 0 = dktX1_applies_0 := by decide +kernel
theorem dksX1_applies_1 : cX1_applies.data.toList.drop 22 = dktX1_applies_1 := dk_seg dksX1_applies_0 22 rfl rfl
theorem dX1_applies_0 : decode cX1_applies 0 = .ok (.iconst 0, 1) := dk_3 (dk_at dksX1_applies_0 0 rfl rfl)
theorem dX1_applies_1 : decode cX1_applies 1 = .ok (.istore_n 2, 1) := dk_61 (dk_at dksX1_applies_0 1 rfl rfl)
theorem dX1_applies_2 : decode cX1_applies 2 = .ok (.iload_n 2, 1) := dk_28 (dk_at dksX1_applies_0 2 rfl rfl)
theorem dX1_applies_3 : decode cX1_applies 3 = .ok (.aload_n 0, 1) := dk_42 (dk_at dksX1_applies_0 3 rfl rfl)
theorem dX1_applies_4 : decode cX1_applies 4 = .ok (.getfield 21, 3) := dk_180 0 21 (dk_at dksX1_applies_0 4 rfl rfl)
theorem dX1_applies_7 : decode cX1_applies 7 = .ok (.iconst 0, 1) := dk_3 (dk_at dksX1_applies_0 7 rfl rfl)
theorem dX1_applies_8 : decode cX1_applies 8 = .ok (.iaload, 1) := dk_46 (dk_at dksX1_applies_0 8 rfl rfl)
theorem dX1_applies_9 : decode cX1_applies 9 = .ok (.if_icmp .ge 27, 3) := dk_162 0 27 (dk_at dksX1_applies_0 9 rfl rfl)
theorem dX1_applies_12 : decode cX1_applies 12 = .ok (.aload_n 0, 1) := dk_42 (dk_at dksX1_applies_0 12 rfl rfl)
theorem dX1_applies_13 : decode cX1_applies 13 = .ok (.aload_n 1, 1) := dk_43 (dk_at dksX1_applies_0 13 rfl rfl)
theorem dX1_applies_14 : decode cX1_applies 14 = .ok (.invokevirtual 166, 3) := dk_182 0 166 (dk_at dksX1_applies_0 14 rfl rfl)
theorem dX1_applies_17 : decode cX1_applies 17 = .ok (.ifCond .eq 19, 3) := dk_153 0 19 (dk_at dksX1_applies_0 17 rfl rfl)
theorem dX1_applies_20 : decode cX1_applies 20 = .ok (.aload_n 1, 1) := dk_43 (dk_at dksX1_applies_0 20 rfl rfl)
theorem dX1_applies_21 : decode cX1_applies 21 = .ok (.dup, 1) := dk_89 (dk_at dksX1_applies_0 21 rfl rfl)
theorem dX1_applies_22 : decode cX1_applies 22 = .ok (.getfield 137, 3) := dk_180 0 137 (dk_at dksX1_applies_1 0 rfl rfl)
theorem dX1_applies_25 : decode cX1_applies 25 = .ok (.iconst 1, 1) := dk_4 (dk_at dksX1_applies_1 3 rfl rfl)
theorem dX1_applies_26 : decode cX1_applies 26 = .ok (.iadd, 1) := dk_96 (dk_at dksX1_applies_1 4 rfl rfl)
theorem dX1_applies_27 : decode cX1_applies 27 = .ok (.putfield 137, 3) := dk_181 0 137 (dk_at dksX1_applies_1 5 rfl rfl)
theorem dX1_applies_30 : decode cX1_applies 30 = .ok (.iinc 2 1, 3) := dk_132 2 1 (dk_at dksX1_applies_1 8 rfl rfl)
theorem dX1_applies_33 : decode cX1_applies 33 = .ok (.goto (-31), 3) := dk_167 255 225 (dk_at dksX1_applies_1 11 rfl rfl)
theorem dX1_applies_36 : decode cX1_applies 36 = .ok (.iload_n 2, 1) := dk_28 (dk_at dksX1_applies_1 14 rfl rfl)
theorem dX1_applies_37 : decode cX1_applies 37 = .ok (.ireturn, 1) := dk_172 (dk_at dksX1_applies_1 15 rfl rfl)
abbrev cX1_canApply : ByteArray := prog_8_method_18_code
def yX1_canApply : MethodName := ⟨RX1, "canApply", "(LFencedStandbys$Standby;)Z"⟩
def dkwX1_canApply_1 : List UInt8 := [42, 180, 0, 53, 42, 180, 0, 21, 4, 46, 185, 0, 161, 3, 0, 172]
abbrev dktX1_canApply_1 : List UInt8 := dkwX1_canApply_1 ++ []
def dkwX1_canApply_0 : List UInt8 := [43, 182, 0, 157, 154, 0, 5, 3, 172, 42, 180, 0, 31, 43, 180, 0, 137, 4, 96, 182, 0, 68, 77, 44]
abbrev dktX1_canApply_0 : List UInt8 := dkwX1_canApply_0 ++ dktX1_canApply_1
theorem dksX1_canApply_0 : cX1_canApply.data.toList.drop 0 = dktX1_canApply_0 := by decide +kernel
theorem dksX1_canApply_1 : cX1_canApply.data.toList.drop 24 = dktX1_canApply_1 := dk_seg dksX1_canApply_0 24 rfl rfl
theorem dX1_canApply_0 : decode cX1_canApply 0 = .ok (.aload_n 1, 1) := dk_43 (dk_at dksX1_canApply_0 0 rfl rfl)
theorem dX1_canApply_1 : decode cX1_canApply 1 = .ok (.invokevirtual 157, 3) := dk_182 0 157 (dk_at dksX1_canApply_0 1 rfl rfl)
theorem dX1_canApply_4 : decode cX1_canApply 4 = .ok (.ifCond .ne 5, 3) := dk_154 0 5 (dk_at dksX1_canApply_0 4 rfl rfl)
theorem dX1_canApply_7 : decode cX1_canApply 7 = .ok (.iconst 0, 1) := dk_3 (dk_at dksX1_canApply_0 7 rfl rfl)
theorem dX1_canApply_8 : decode cX1_canApply 8 = .ok (.ireturn, 1) := dk_172 (dk_at dksX1_canApply_0 8 rfl rfl)
theorem dX1_canApply_9 : decode cX1_canApply 9 = .ok (.aload_n 0, 1) := dk_42 (dk_at dksX1_canApply_0 9 rfl rfl)
theorem dX1_canApply_10 : decode cX1_canApply 10 = .ok (.getfield 31, 3) := dk_180 0 31 (dk_at dksX1_canApply_0 10 rfl rfl)
theorem dX1_canApply_13 : decode cX1_canApply 13 = .ok (.aload_n 1, 1) := dk_43 (dk_at dksX1_canApply_0 13 rfl rfl)
theorem dX1_canApply_14 : decode cX1_canApply 14 = .ok (.getfield 137, 3) := dk_180 0 137 (dk_at dksX1_canApply_0 14 rfl rfl)
theorem dX1_canApply_17 : decode cX1_canApply 17 = .ok (.iconst 1, 1) := dk_4 (dk_at dksX1_canApply_0 17 rfl rfl)
theorem dX1_canApply_18 : decode cX1_canApply 18 = .ok (.iadd, 1) := dk_96 (dk_at dksX1_canApply_0 18 rfl rfl)
theorem dX1_canApply_19 : decode cX1_canApply 19 = .ok (.invokevirtual 68, 3) := dk_182 0 68 (dk_at dksX1_canApply_0 19 rfl rfl)
theorem dX1_canApply_22 : decode cX1_canApply 22 = .ok (.astore_n 2, 1) := dk_77 (dk_at dksX1_canApply_0 22 rfl rfl)
theorem dX1_canApply_23 : decode cX1_canApply 23 = .ok (.aload_n 2, 1) := dk_44 (dk_at dksX1_canApply_0 23 rfl rfl)
theorem dX1_canApply_24 : decode cX1_canApply 24 = .ok (.aload_n 0, 1) := dk_42 (dk_at dksX1_canApply_1 0 rfl rfl)
theorem dX1_canApply_25 : decode cX1_canApply 25 = .ok (.getfield 53, 3) := dk_180 0 53 (dk_at dksX1_canApply_1 1 rfl rfl)
theorem dX1_canApply_28 : decode cX1_canApply 28 = .ok (.aload_n 0, 1) := dk_42 (dk_at dksX1_canApply_1 4 rfl rfl)
theorem dX1_canApply_29 : decode cX1_canApply 29 = .ok (.getfield 21, 3) := dk_180 0 21 (dk_at dksX1_canApply_1 5 rfl rfl)
theorem dX1_canApply_32 : decode cX1_canApply 32 = .ok (.iconst 1, 1) := dk_4 (dk_at dksX1_canApply_1 8 rfl rfl)
theorem dX1_canApply_33 : decode cX1_canApply 33 = .ok (.iaload, 1) := dk_46 (dk_at dksX1_canApply_1 9 rfl rfl)
theorem dX1_canApply_34 : decode cX1_canApply 34 = .ok (.invokeinterface 161 3, 5) := by decide +kernel
theorem dX1_canApply_39 : decode cX1_canApply 39 = .ok (.ireturn, 1) := dk_172 (dk_at dksX1_canApply_1 15 rfl rfl)
abbrev cX1_rebuilds : ByteArray := prog_8_method_22_code
def yX1_rebuilds : MethodName := ⟨RX1, "rebuilds", "(I)I"⟩
def dkwX1_rebuilds_1 : List UInt8 := [172]
abbrev dktX1_rebuilds_1 : List UInt8 := dkwX1_rebuilds_1 ++ []
def dkwX1_rebuilds_0 : List UInt8 := [42, 180, 0, 17, 27, 50, 42, 180, 0, 31, 182, 0, 100, 3, 182, 0, 181, 42, 180, 0, 31, 182, 0, 100]
abbrev dktX1_rebuilds_0 : List UInt8 := dkwX1_rebuilds_0 ++ dktX1_rebuilds_1
theorem dksX1_rebuilds_0 : cX1_rebuilds.data.toList.drop 0 = dktX1_rebuilds_0 := by decide +kernel
theorem dksX1_rebuilds_1 : cX1_rebuilds.data.toList.drop 24 = dktX1_rebuilds_1 := dk_seg dksX1_rebuilds_0 24 rfl rfl
theorem dX1_rebuilds_0 : decode cX1_rebuilds 0 = .ok (.aload_n 0, 1) := dk_42 (dk_at dksX1_rebuilds_0 0 rfl rfl)
theorem dX1_rebuilds_1 : decode cX1_rebuilds 1 = .ok (.getfield 17, 3) := dk_180 0 17 (dk_at dksX1_rebuilds_0 1 rfl rfl)
theorem dX1_rebuilds_4 : decode cX1_rebuilds 4 = .ok (.iload_n 1, 1) := dk_27 (dk_at dksX1_rebuilds_0 4 rfl rfl)
theorem dX1_rebuilds_5 : decode cX1_rebuilds 5 = .ok (.aaload, 1) := dk_50 (dk_at dksX1_rebuilds_0 5 rfl rfl)
theorem dX1_rebuilds_6 : decode cX1_rebuilds 6 = .ok (.aload_n 0, 1) := dk_42 (dk_at dksX1_rebuilds_0 6 rfl rfl)
theorem dX1_rebuilds_7 : decode cX1_rebuilds 7 = .ok (.getfield 31, 3) := dk_180 0 31 (dk_at dksX1_rebuilds_0 7 rfl rfl)
theorem dX1_rebuilds_10 : decode cX1_rebuilds 10 = .ok (.invokevirtual 100, 3) := dk_182 0 100 (dk_at dksX1_rebuilds_0 10 rfl rfl)
theorem dX1_rebuilds_13 : decode cX1_rebuilds 13 = .ok (.iconst 0, 1) := dk_3 (dk_at dksX1_rebuilds_0 13 rfl rfl)
theorem dX1_rebuilds_14 : decode cX1_rebuilds 14 = .ok (.invokevirtual 181, 3) := dk_182 0 181 (dk_at dksX1_rebuilds_0 14 rfl rfl)
theorem dX1_rebuilds_17 : decode cX1_rebuilds 17 = .ok (.aload_n 0, 1) := dk_42 (dk_at dksX1_rebuilds_0 17 rfl rfl)
theorem dX1_rebuilds_18 : decode cX1_rebuilds 18 = .ok (.getfield 31, 3) := dk_180 0 31 (dk_at dksX1_rebuilds_0 18 rfl rfl)
theorem dX1_rebuilds_21 : decode cX1_rebuilds 21 = .ok (.invokevirtual 100, 3) := dk_182 0 100 (dk_at dksX1_rebuilds_0 21 rfl rfl)
theorem dX1_rebuilds_24 : decode cX1_rebuilds 24 = .ok (.ireturn, 1) := dk_172 (dk_at dksX1_rebuilds_1 0 rfl rfl)
abbrev cX1_setTo : ByteArray := prog_8_method_23_code
def yX1_setTo : MethodName := ⟨RX1, "setTo", "(II)I"⟩
def dkwX1_setTo_0 : List UInt8 := [42, 180, 0, 21, 27, 46, 62, 42, 180, 0, 21, 27, 28, 79, 29, 172]
abbrev dktX1_setTo_0 : List UInt8 := dkwX1_setTo_0 ++ []
theorem dksX1_setTo_0 : cX1_setTo.data.toList.drop 0 = dktX1_setTo_0 := by decide +kernel
theorem dX1_setTo_0 : decode cX1_setTo 0 = .ok (.aload_n 0, 1) := dk_42 (dk_at dksX1_setTo_0 0 rfl rfl)
theorem dX1_setTo_1 : decode cX1_setTo 1 = .ok (.getfield 21, 3) := dk_180 0 21 (dk_at dksX1_setTo_0 1 rfl rfl)
theorem dX1_setTo_4 : decode cX1_setTo 4 = .ok (.iload_n 1, 1) := dk_27 (dk_at dksX1_setTo_0 4 rfl rfl)
theorem dX1_setTo_5 : decode cX1_setTo 5 = .ok (.iaload, 1) := dk_46 (dk_at dksX1_setTo_0 5 rfl rfl)
theorem dX1_setTo_6 : decode cX1_setTo 6 = .ok (.istore_n 3, 1) := dk_62 (dk_at dksX1_setTo_0 6 rfl rfl)
theorem dX1_setTo_7 : decode cX1_setTo 7 = .ok (.aload_n 0, 1) := dk_42 (dk_at dksX1_setTo_0 7 rfl rfl)
theorem dX1_setTo_8 : decode cX1_setTo 8 = .ok (.getfield 21, 3) := dk_180 0 21 (dk_at dksX1_setTo_0 8 rfl rfl)
theorem dX1_setTo_11 : decode cX1_setTo 11 = .ok (.iload_n 1, 1) := dk_27 (dk_at dksX1_setTo_0 11 rfl rfl)
theorem dX1_setTo_12 : decode cX1_setTo 12 = .ok (.iload_n 2, 1) := dk_28 (dk_at dksX1_setTo_0 12 rfl rfl)
theorem dX1_setTo_13 : decode cX1_setTo 13 = .ok (.iastore, 1) := dk_79 (dk_at dksX1_setTo_0 13 rfl rfl)
theorem dX1_setTo_14 : decode cX1_setTo 14 = .ok (.iload_n 3, 1) := dk_29 (dk_at dksX1_setTo_0 14 rfl rfl)
theorem dX1_setTo_15 : decode cX1_setTo 15 = .ok (.ireturn, 1) := dk_172 (dk_at dksX1_setTo_0 15 rfl rfl)
abbrev cX1_value : ByteArray := prog_8_method_5_code
def yX1_value : MethodName := ⟨RX1, "value", "(II)I"⟩
def dkwX1_value_1 : List UInt8 := [192, 0, 72, 180, 0, 87, 27, 29, 182, 0, 90, 172]
abbrev dktX1_value_1 : List UInt8 := dkwX1_value_1 ++ []
def dkwX1_value_0 : List UInt8 := [42, 27, 28, 182, 0, 94, 62, 29, 154, 0, 7, 3, 167, 0, 23, 42, 42, 180, 0, 31, 29, 182, 0, 68]
abbrev dktX1_value_0 : List UInt8 := dkwX1_value_0 ++ dktX1_value_1
theorem dksX1_value_0 : cX1_value.data.toList.drop 0 = dktX1_value_0 := by decide +kernel
theorem dksX1_value_1 : cX1_value.data.toList.drop 24 = dktX1_value_1 := dk_seg dksX1_value_0 24 rfl rfl
theorem dX1_value_0 : decode cX1_value 0 = .ok (.aload_n 0, 1) := dk_42 (dk_at dksX1_value_0 0 rfl rfl)
theorem dX1_value_1 : decode cX1_value 1 = .ok (.iload_n 1, 1) := dk_27 (dk_at dksX1_value_0 1 rfl rfl)
theorem dX1_value_2 : decode cX1_value 2 = .ok (.iload_n 2, 1) := dk_28 (dk_at dksX1_value_0 2 rfl rfl)
theorem dX1_value_3 : decode cX1_value 3 = .ok (.invokevirtual 94, 3) := dk_182 0 94 (dk_at dksX1_value_0 3 rfl rfl)
theorem dX1_value_6 : decode cX1_value 6 = .ok (.istore_n 3, 1) := dk_62 (dk_at dksX1_value_0 6 rfl rfl)
theorem dX1_value_7 : decode cX1_value 7 = .ok (.iload_n 3, 1) := dk_29 (dk_at dksX1_value_0 7 rfl rfl)
theorem dX1_value_8 : decode cX1_value 8 = .ok (.ifCond .ne 7, 3) := dk_154 0 7 (dk_at dksX1_value_0 8 rfl rfl)
theorem dX1_value_11 : decode cX1_value 11 = .ok (.iconst 0, 1) := dk_3 (dk_at dksX1_value_0 11 rfl rfl)
theorem dX1_value_12 : decode cX1_value 12 = .ok (.goto 23, 3) := dk_167 0 23 (dk_at dksX1_value_0 12 rfl rfl)
theorem dX1_value_15 : decode cX1_value 15 = .ok (.aload_n 0, 1) := dk_42 (dk_at dksX1_value_0 15 rfl rfl)
theorem dX1_value_16 : decode cX1_value 16 = .ok (.aload_n 0, 1) := dk_42 (dk_at dksX1_value_0 16 rfl rfl)
theorem dX1_value_17 : decode cX1_value 17 = .ok (.getfield 31, 3) := dk_180 0 31 (dk_at dksX1_value_0 17 rfl rfl)
theorem dX1_value_20 : decode cX1_value 20 = .ok (.iload_n 3, 1) := dk_29 (dk_at dksX1_value_0 20 rfl rfl)
theorem dX1_value_21 : decode cX1_value 21 = .ok (.invokevirtual 68, 3) := dk_182 0 68 (dk_at dksX1_value_0 21 rfl rfl)
theorem dX1_value_24 : decode cX1_value 24 = .ok (.checkcast 72, 3) := dk_192 0 72 (dk_at dksX1_value_1 0 rfl rfl)
theorem dX1_value_27 : decode cX1_value 27 = .ok (.getfield 87, 3) := dk_180 0 87 (dk_at dksX1_value_1 3 rfl rfl)
theorem dX1_value_30 : decode cX1_value 30 = .ok (.iload_n 1, 1) := dk_27 (dk_at dksX1_value_1 6 rfl rfl)
theorem dX1_value_31 : decode cX1_value 31 = .ok (.iload_n 3, 1) := dk_29 (dk_at dksX1_value_1 7 rfl rfl)
theorem dX1_value_32 : decode cX1_value 32 = .ok (.invokevirtual 90, 3) := dk_182 0 90 (dk_at dksX1_value_1 8 rfl rfl)
theorem dX1_value_35 : decode cX1_value 35 = .ok (.ireturn, 1) := dk_172 (dk_at dksX1_value_1 11 rfl rfl)
abbrev cX1_lastCommit : ByteArray := prog_8_method_4_code
def yX1_lastCommit : MethodName := ⟨RX1, "lastCommit", "(II)I"⟩
def dkwX1_lastCommit_2 : List UInt8 := [159, 0, 8, 21, 4, 167, 0, 4, 29, 62, 132, 4, 1, 167, 255, 201, 29, 172]
abbrev dktX1_lastCommit_2 : List UInt8 := dkwX1_lastCommit_2 ++ []
def dkwX1_lastCommit_1 : List UInt8 := [58, 5, 25, 5, 180, 0, 84, 4, 160, 0, 24, 42, 25, 5, 180, 0, 87, 27, 21, 4, 182, 0, 90, 2]
abbrev dktX1_lastCommit_1 : List UInt8 := dkwX1_lastCommit_1 ++ dktX1_lastCommit_2
def dkwX1_lastCommit_0 : List UInt8 := [3, 62, 4, 54, 4, 21, 4, 28, 163, 0, 55, 42, 180, 0, 31, 21, 4, 182, 0, 68, 192, 0, 72]
abbrev dktX1_lastCommit_0 : List UInt8 := dkwX1_lastCommit_0 ++ dktX1_lastCommit_1
theorem dksX1_lastCommit_0 : cX1_lastCommit.data.toList.drop 0 = dktX1_lastCommit_0 := by decide +kernel
theorem dksX1_lastCommit_1 : cX1_lastCommit.data.toList.drop 23 = dktX1_lastCommit_1 := dk_seg dksX1_lastCommit_0 23 rfl rfl
theorem dksX1_lastCommit_2 : cX1_lastCommit.data.toList.drop 47 = dktX1_lastCommit_2 := dk_seg dksX1_lastCommit_1 24 rfl rfl
theorem dX1_lastCommit_0 : decode cX1_lastCommit 0 = .ok (.iconst 0, 1) := dk_3 (dk_at dksX1_lastCommit_0 0 rfl rfl)
theorem dX1_lastCommit_1 : decode cX1_lastCommit 1 = .ok (.istore_n 3, 1) := dk_62 (dk_at dksX1_lastCommit_0 1 rfl rfl)
theorem dX1_lastCommit_2 : decode cX1_lastCommit 2 = .ok (.iconst 1, 1) := dk_4 (dk_at dksX1_lastCommit_0 2 rfl rfl)
theorem dX1_lastCommit_3 : decode cX1_lastCommit 3 = .ok (.istore 4, 2) := dk_54 4 (dk_at dksX1_lastCommit_0 3 rfl rfl)
theorem dX1_lastCommit_5 : decode cX1_lastCommit 5 = .ok (.iload 4, 2) := dk_21 4 (dk_at dksX1_lastCommit_0 5 rfl rfl)
theorem dX1_lastCommit_7 : decode cX1_lastCommit 7 = .ok (.iload_n 2, 1) := dk_28 (dk_at dksX1_lastCommit_0 7 rfl rfl)
theorem dX1_lastCommit_8 : decode cX1_lastCommit 8 = .ok (.if_icmp .gt 55, 3) := dk_163 0 55 (dk_at dksX1_lastCommit_0 8 rfl rfl)
theorem dX1_lastCommit_11 : decode cX1_lastCommit 11 = .ok (.aload_n 0, 1) := dk_42 (dk_at dksX1_lastCommit_0 11 rfl rfl)
theorem dX1_lastCommit_12 : decode cX1_lastCommit 12 = .ok (.getfield 31, 3) := dk_180 0 31 (dk_at dksX1_lastCommit_0 12 rfl rfl)
theorem dX1_lastCommit_15 : decode cX1_lastCommit 15 = .ok (.iload 4, 2) := dk_21 4 (dk_at dksX1_lastCommit_0 15 rfl rfl)
theorem dX1_lastCommit_17 : decode cX1_lastCommit 17 = .ok (.invokevirtual 68, 3) := dk_182 0 68 (dk_at dksX1_lastCommit_0 17 rfl rfl)
theorem dX1_lastCommit_20 : decode cX1_lastCommit 20 = .ok (.checkcast 72, 3) := dk_192 0 72 (dk_at dksX1_lastCommit_0 20 rfl rfl)
theorem dX1_lastCommit_23 : decode cX1_lastCommit 23 = .ok (.astore 5, 2) := dk_58 5 (dk_at dksX1_lastCommit_1 0 rfl rfl)
theorem dX1_lastCommit_25 : decode cX1_lastCommit 25 = .ok (.aload 5, 2) := dk_25 5 (dk_at dksX1_lastCommit_1 2 rfl rfl)
theorem dX1_lastCommit_27 : decode cX1_lastCommit 27 = .ok (.getfield 84, 3) := dk_180 0 84 (dk_at dksX1_lastCommit_1 4 rfl rfl)
theorem dX1_lastCommit_30 : decode cX1_lastCommit 30 = .ok (.iconst 1, 1) := dk_4 (dk_at dksX1_lastCommit_1 7 rfl rfl)
theorem dX1_lastCommit_31 : decode cX1_lastCommit 31 = .ok (.if_icmp .ne 24, 3) := dk_160 0 24 (dk_at dksX1_lastCommit_1 8 rfl rfl)
theorem dX1_lastCommit_34 : decode cX1_lastCommit 34 = .ok (.aload_n 0, 1) := dk_42 (dk_at dksX1_lastCommit_1 11 rfl rfl)
theorem dX1_lastCommit_35 : decode cX1_lastCommit 35 = .ok (.aload 5, 2) := dk_25 5 (dk_at dksX1_lastCommit_1 12 rfl rfl)
theorem dX1_lastCommit_37 : decode cX1_lastCommit 37 = .ok (.getfield 87, 3) := dk_180 0 87 (dk_at dksX1_lastCommit_1 14 rfl rfl)
theorem dX1_lastCommit_40 : decode cX1_lastCommit 40 = .ok (.iload_n 1, 1) := dk_27 (dk_at dksX1_lastCommit_1 17 rfl rfl)
theorem dX1_lastCommit_41 : decode cX1_lastCommit 41 = .ok (.iload 4, 2) := dk_21 4 (dk_at dksX1_lastCommit_1 18 rfl rfl)
theorem dX1_lastCommit_43 : decode cX1_lastCommit 43 = .ok (.invokevirtual 90, 3) := dk_182 0 90 (dk_at dksX1_lastCommit_1 20 rfl rfl)
theorem dX1_lastCommit_46 : decode cX1_lastCommit 46 = .ok (.iconst (-1), 1) := dk_2 (dk_at dksX1_lastCommit_1 23 rfl rfl)
theorem dX1_lastCommit_47 : decode cX1_lastCommit 47 = .ok (.if_icmp .eq 8, 3) := dk_159 0 8 (dk_at dksX1_lastCommit_2 0 rfl rfl)
theorem dX1_lastCommit_50 : decode cX1_lastCommit 50 = .ok (.iload 4, 2) := dk_21 4 (dk_at dksX1_lastCommit_2 3 rfl rfl)
theorem dX1_lastCommit_52 : decode cX1_lastCommit 52 = .ok (.goto 4, 3) := dk_167 0 4 (dk_at dksX1_lastCommit_2 5 rfl rfl)
theorem dX1_lastCommit_55 : decode cX1_lastCommit 55 = .ok (.iload_n 3, 1) := dk_29 (dk_at dksX1_lastCommit_2 8 rfl rfl)
theorem dX1_lastCommit_56 : decode cX1_lastCommit 56 = .ok (.istore_n 3, 1) := dk_62 (dk_at dksX1_lastCommit_2 9 rfl rfl)
theorem dX1_lastCommit_57 : decode cX1_lastCommit 57 = .ok (.iinc 4 1, 3) := dk_132 4 1 (dk_at dksX1_lastCommit_2 10 rfl rfl)
theorem dX1_lastCommit_60 : decode cX1_lastCommit 60 = .ok (.goto (-55), 3) := dk_167 255 201 (dk_at dksX1_lastCommit_2 13 rfl rfl)
theorem dX1_lastCommit_63 : decode cX1_lastCommit 63 = .ok (.iload_n 3, 1) := dk_29 (dk_at dksX1_lastCommit_2 16 rfl rfl)
theorem dX1_lastCommit_64 : decode cX1_lastCommit 64 = .ok (.ireturn, 1) := dk_172 (dk_at dksX1_lastCommit_2 17 rfl rfl)
abbrev cX1_putBy : ByteArray := prog_8_method_3_code
def yX1_putBy : MethodName := ⟨RX1, "putBy", "(III)I"⟩
def dkwX1_putBy_2 : List UInt8 := [180, 0, 81, 167, 0, 5, 21, 4, 54, 4, 132, 5, 1, 167, 255, 202, 21, 4, 172]
abbrev dktX1_putBy_2 : List UInt8 := dkwX1_putBy_2 ++ []
def dkwX1_putBy_1 : List UInt8 := [58, 6, 25, 6, 3, 27, 182, 0, 74, 153, 0, 20, 25, 6, 180, 0, 78, 28, 160, 0, 11, 25, 6]
abbrev dktX1_putBy_1 : List UInt8 := dkwX1_putBy_1 ++ dktX1_putBy_2
def dkwX1_putBy_0 : List UInt8 := [2, 54, 4, 4, 54, 5, 21, 5, 29, 163, 0, 54, 42, 180, 0, 31, 21, 5, 182, 0, 68, 192, 0, 72]
abbrev dktX1_putBy_0 : List UInt8 := dkwX1_putBy_0 ++ dktX1_putBy_1
theorem dksX1_putBy_0 : cX1_putBy.data.toList.drop 0 = dktX1_putBy_0 := by decide +kernel
theorem dksX1_putBy_1 : cX1_putBy.data.toList.drop 24 = dktX1_putBy_1 := dk_seg dksX1_putBy_0 24 rfl rfl
theorem dksX1_putBy_2 : cX1_putBy.data.toList.drop 47 = dktX1_putBy_2 := dk_seg dksX1_putBy_1 23 rfl rfl
theorem dX1_putBy_0 : decode cX1_putBy 0 = .ok (.iconst (-1), 1) := dk_2 (dk_at dksX1_putBy_0 0 rfl rfl)
theorem dX1_putBy_1 : decode cX1_putBy 1 = .ok (.istore 4, 2) := dk_54 4 (dk_at dksX1_putBy_0 1 rfl rfl)
theorem dX1_putBy_3 : decode cX1_putBy 3 = .ok (.iconst 1, 1) := dk_4 (dk_at dksX1_putBy_0 3 rfl rfl)
theorem dX1_putBy_4 : decode cX1_putBy 4 = .ok (.istore 5, 2) := dk_54 5 (dk_at dksX1_putBy_0 4 rfl rfl)
theorem dX1_putBy_6 : decode cX1_putBy 6 = .ok (.iload 5, 2) := dk_21 5 (dk_at dksX1_putBy_0 6 rfl rfl)
theorem dX1_putBy_8 : decode cX1_putBy 8 = .ok (.iload_n 3, 1) := dk_29 (dk_at dksX1_putBy_0 8 rfl rfl)
theorem dX1_putBy_9 : decode cX1_putBy 9 = .ok (.if_icmp .gt 54, 3) := dk_163 0 54 (dk_at dksX1_putBy_0 9 rfl rfl)
theorem dX1_putBy_12 : decode cX1_putBy 12 = .ok (.aload_n 0, 1) := dk_42 (dk_at dksX1_putBy_0 12 rfl rfl)
theorem dX1_putBy_13 : decode cX1_putBy 13 = .ok (.getfield 31, 3) := dk_180 0 31 (dk_at dksX1_putBy_0 13 rfl rfl)
theorem dX1_putBy_16 : decode cX1_putBy 16 = .ok (.iload 5, 2) := dk_21 5 (dk_at dksX1_putBy_0 16 rfl rfl)
theorem dX1_putBy_18 : decode cX1_putBy 18 = .ok (.invokevirtual 68, 3) := dk_182 0 68 (dk_at dksX1_putBy_0 18 rfl rfl)
theorem dX1_putBy_21 : decode cX1_putBy 21 = .ok (.checkcast 72, 3) := dk_192 0 72 (dk_at dksX1_putBy_0 21 rfl rfl)
theorem dX1_putBy_24 : decode cX1_putBy 24 = .ok (.astore 6, 2) := dk_58 6 (dk_at dksX1_putBy_1 0 rfl rfl)
theorem dX1_putBy_26 : decode cX1_putBy 26 = .ok (.aload 6, 2) := dk_25 6 (dk_at dksX1_putBy_1 2 rfl rfl)
theorem dX1_putBy_28 : decode cX1_putBy 28 = .ok (.iconst 0, 1) := dk_3 (dk_at dksX1_putBy_1 4 rfl rfl)
theorem dX1_putBy_29 : decode cX1_putBy 29 = .ok (.iload_n 1, 1) := dk_27 (dk_at dksX1_putBy_1 5 rfl rfl)
theorem dX1_putBy_30 : decode cX1_putBy 30 = .ok (.invokevirtual 74, 3) := dk_182 0 74 (dk_at dksX1_putBy_1 6 rfl rfl)
theorem dX1_putBy_33 : decode cX1_putBy 33 = .ok (.ifCond .eq 20, 3) := dk_153 0 20 (dk_at dksX1_putBy_1 9 rfl rfl)
theorem dX1_putBy_36 : decode cX1_putBy 36 = .ok (.aload 6, 2) := dk_25 6 (dk_at dksX1_putBy_1 12 rfl rfl)
theorem dX1_putBy_38 : decode cX1_putBy 38 = .ok (.getfield 78, 3) := dk_180 0 78 (dk_at dksX1_putBy_1 14 rfl rfl)
theorem dX1_putBy_41 : decode cX1_putBy 41 = .ok (.iload_n 2, 1) := dk_28 (dk_at dksX1_putBy_1 17 rfl rfl)
theorem dX1_putBy_42 : decode cX1_putBy 42 = .ok (.if_icmp .ne 11, 3) := dk_160 0 11 (dk_at dksX1_putBy_1 18 rfl rfl)
theorem dX1_putBy_45 : decode cX1_putBy 45 = .ok (.aload 6, 2) := dk_25 6 (dk_at dksX1_putBy_1 21 rfl rfl)
theorem dX1_putBy_47 : decode cX1_putBy 47 = .ok (.getfield 81, 3) := dk_180 0 81 (dk_at dksX1_putBy_2 0 rfl rfl)
theorem dX1_putBy_50 : decode cX1_putBy 50 = .ok (.goto 5, 3) := dk_167 0 5 (dk_at dksX1_putBy_2 3 rfl rfl)
theorem dX1_putBy_53 : decode cX1_putBy 53 = .ok (.iload 4, 2) := dk_21 4 (dk_at dksX1_putBy_2 6 rfl rfl)
theorem dX1_putBy_55 : decode cX1_putBy 55 = .ok (.istore 4, 2) := dk_54 4 (dk_at dksX1_putBy_2 8 rfl rfl)
theorem dX1_putBy_57 : decode cX1_putBy 57 = .ok (.iinc 5 1, 3) := dk_132 5 1 (dk_at dksX1_putBy_2 10 rfl rfl)
theorem dX1_putBy_60 : decode cX1_putBy 60 = .ok (.goto (-54), 3) := dk_167 255 202 (dk_at dksX1_putBy_2 13 rfl rfl)
theorem dX1_putBy_63 : decode cX1_putBy 63 = .ok (.iload 4, 2) := dk_21 4 (dk_at dksX1_putBy_2 16 rfl rfl)
theorem dX1_putBy_65 : decode cX1_putBy 65 = .ok (.ireturn, 1) := dk_172 (dk_at dksX1_putBy_2 18 rfl rfl)
abbrev cX1_seenBy : ByteArray := prog_8_method_8_code
def yX1_seenBy : MethodName := ⟨RX1, "seenBy", "(II)I"⟩
def dkwX1_seenBy_2 : List UInt8 := [29, 172]
abbrev dktX1_seenBy_2 : List UInt8 := dkwX1_seenBy_2 ++ []
def dkwX1_seenBy_1 : List UInt8 := [182, 0, 90, 62, 29, 2, 160, 0, 18, 42, 28, 42, 180, 0, 31, 182, 0, 100, 182, 0, 98, 167, 0, 4]
abbrev dktX1_seenBy_1 : List UInt8 := dkwX1_seenBy_1 ++ dktX1_seenBy_2
def dkwX1_seenBy_0 : List UInt8 := [27, 2, 160, 0, 7, 2, 167, 0, 21, 42, 42, 180, 0, 9, 27, 46, 28, 42, 180, 0, 31, 182, 0, 100]
abbrev dktX1_seenBy_0 : List UInt8 := dkwX1_seenBy_0 ++ dktX1_seenBy_1
theorem dksX1_seenBy_0 : cX1_seenBy.data.toList.drop 0 = dktX1_seenBy_0 := by decide +kernel
theorem dksX1_seenBy_1 : cX1_seenBy.data.toList.drop 24 = dktX1_seenBy_1 := dk_seg dksX1_seenBy_0 24 rfl rfl
theorem dksX1_seenBy_2 : cX1_seenBy.data.toList.drop 48 = dktX1_seenBy_2 := dk_seg dksX1_seenBy_1 24 rfl rfl
theorem dX1_seenBy_0 : decode cX1_seenBy 0 = .ok (.iload_n 1, 1) := dk_27 (dk_at dksX1_seenBy_0 0 rfl rfl)
theorem dX1_seenBy_1 : decode cX1_seenBy 1 = .ok (.iconst (-1), 1) := dk_2 (dk_at dksX1_seenBy_0 1 rfl rfl)
theorem dX1_seenBy_2 : decode cX1_seenBy 2 = .ok (.if_icmp .ne 7, 3) := dk_160 0 7 (dk_at dksX1_seenBy_0 2 rfl rfl)
theorem dX1_seenBy_5 : decode cX1_seenBy 5 = .ok (.iconst (-1), 1) := dk_2 (dk_at dksX1_seenBy_0 5 rfl rfl)
theorem dX1_seenBy_6 : decode cX1_seenBy 6 = .ok (.goto 21, 3) := dk_167 0 21 (dk_at dksX1_seenBy_0 6 rfl rfl)
theorem dX1_seenBy_9 : decode cX1_seenBy 9 = .ok (.aload_n 0, 1) := dk_42 (dk_at dksX1_seenBy_0 9 rfl rfl)
theorem dX1_seenBy_10 : decode cX1_seenBy 10 = .ok (.aload_n 0, 1) := dk_42 (dk_at dksX1_seenBy_0 10 rfl rfl)
theorem dX1_seenBy_11 : decode cX1_seenBy 11 = .ok (.getfield 9, 3) := dk_180 0 9 (dk_at dksX1_seenBy_0 11 rfl rfl)
theorem dX1_seenBy_14 : decode cX1_seenBy 14 = .ok (.iload_n 1, 1) := dk_27 (dk_at dksX1_seenBy_0 14 rfl rfl)
theorem dX1_seenBy_15 : decode cX1_seenBy 15 = .ok (.iaload, 1) := dk_46 (dk_at dksX1_seenBy_0 15 rfl rfl)
theorem dX1_seenBy_16 : decode cX1_seenBy 16 = .ok (.iload_n 2, 1) := dk_28 (dk_at dksX1_seenBy_0 16 rfl rfl)
theorem dX1_seenBy_17 : decode cX1_seenBy 17 = .ok (.aload_n 0, 1) := dk_42 (dk_at dksX1_seenBy_0 17 rfl rfl)
theorem dX1_seenBy_18 : decode cX1_seenBy 18 = .ok (.getfield 31, 3) := dk_180 0 31 (dk_at dksX1_seenBy_0 18 rfl rfl)
theorem dX1_seenBy_21 : decode cX1_seenBy 21 = .ok (.invokevirtual 100, 3) := dk_182 0 100 (dk_at dksX1_seenBy_0 21 rfl rfl)
theorem dX1_seenBy_24 : decode cX1_seenBy 24 = .ok (.invokevirtual 90, 3) := dk_182 0 90 (dk_at dksX1_seenBy_1 0 rfl rfl)
theorem dX1_seenBy_27 : decode cX1_seenBy 27 = .ok (.istore_n 3, 1) := dk_62 (dk_at dksX1_seenBy_1 3 rfl rfl)
theorem dX1_seenBy_28 : decode cX1_seenBy 28 = .ok (.iload_n 3, 1) := dk_29 (dk_at dksX1_seenBy_1 4 rfl rfl)
theorem dX1_seenBy_29 : decode cX1_seenBy 29 = .ok (.iconst (-1), 1) := dk_2 (dk_at dksX1_seenBy_1 5 rfl rfl)
theorem dX1_seenBy_30 : decode cX1_seenBy 30 = .ok (.if_icmp .ne 18, 3) := dk_160 0 18 (dk_at dksX1_seenBy_1 6 rfl rfl)
theorem dX1_seenBy_33 : decode cX1_seenBy 33 = .ok (.aload_n 0, 1) := dk_42 (dk_at dksX1_seenBy_1 9 rfl rfl)
theorem dX1_seenBy_34 : decode cX1_seenBy 34 = .ok (.iload_n 2, 1) := dk_28 (dk_at dksX1_seenBy_1 10 rfl rfl)
theorem dX1_seenBy_35 : decode cX1_seenBy 35 = .ok (.aload_n 0, 1) := dk_42 (dk_at dksX1_seenBy_1 11 rfl rfl)
theorem dX1_seenBy_36 : decode cX1_seenBy 36 = .ok (.getfield 31, 3) := dk_180 0 31 (dk_at dksX1_seenBy_1 12 rfl rfl)
theorem dX1_seenBy_39 : decode cX1_seenBy 39 = .ok (.invokevirtual 100, 3) := dk_182 0 100 (dk_at dksX1_seenBy_1 15 rfl rfl)
theorem dX1_seenBy_42 : decode cX1_seenBy 42 = .ok (.invokevirtual 98, 3) := dk_182 0 98 (dk_at dksX1_seenBy_1 18 rfl rfl)
theorem dX1_seenBy_45 : decode cX1_seenBy 45 = .ok (.goto 4, 3) := dk_167 0 4 (dk_at dksX1_seenBy_1 21 rfl rfl)
theorem dX1_seenBy_48 : decode cX1_seenBy 48 = .ok (.iload_n 3, 1) := dk_29 (dk_at dksX1_seenBy_2 0 rfl rfl)
theorem dX1_seenBy_49 : decode cX1_seenBy 49 = .ok (.ireturn, 1) := dk_172 (dk_at dksX1_seenBy_2 1 rfl rfl)
abbrev cX1_unlikeKeys : ByteArray := prog_8_method_6_code
def yX1_unlikeKeys : MethodName := ⟨RX1, "unlikeKeys", "(I)I"⟩
def dkwX1_unlikeKeys_1 : List UInt8 := [182, 0, 100, 182, 0, 98, 160, 0, 7, 3, 167, 0, 4, 4, 96, 61, 132, 3, 1, 167, 255, 218, 28, 172]
abbrev dktX1_unlikeKeys_1 : List UInt8 := dkwX1_unlikeKeys_1 ++ []
def dkwX1_unlikeKeys_0 : List UInt8 := [3, 61, 3, 62, 29, 16, 24, 162, 0, 38, 28, 42, 29, 27, 182, 0, 98, 42, 29, 42, 180, 0, 31]
abbrev dktX1_unlikeKeys_0 : List UInt8 := dkwX1_unlikeKeys_0 ++ dktX1_unlikeKeys_1
theorem dksX1_unlikeKeys_0 : cX1_unlikeKeys.data.toList.drop 0 = dktX1_unlikeKeys_0 := by decide +kernel
theorem dksX1_unlikeKeys_1 : cX1_unlikeKeys.data.toList.drop 23 = dktX1_unlikeKeys_1 := dk_seg dksX1_unlikeKeys_0 23 rfl rfl
theorem dX1_unlikeKeys_0 : decode cX1_unlikeKeys 0 = .ok (.iconst 0, 1) := dk_3 (dk_at dksX1_unlikeKeys_0 0 rfl rfl)
theorem dX1_unlikeKeys_1 : decode cX1_unlikeKeys 1 = .ok (.istore_n 2, 1) := dk_61 (dk_at dksX1_unlikeKeys_0 1 rfl rfl)
theorem dX1_unlikeKeys_2 : decode cX1_unlikeKeys 2 = .ok (.iconst 0, 1) := dk_3 (dk_at dksX1_unlikeKeys_0 2 rfl rfl)
theorem dX1_unlikeKeys_3 : decode cX1_unlikeKeys 3 = .ok (.istore_n 3, 1) := dk_62 (dk_at dksX1_unlikeKeys_0 3 rfl rfl)
theorem dX1_unlikeKeys_4 : decode cX1_unlikeKeys 4 = .ok (.iload_n 3, 1) := dk_29 (dk_at dksX1_unlikeKeys_0 4 rfl rfl)
theorem dX1_unlikeKeys_5 : decode cX1_unlikeKeys 5 = .ok (.bipush 24, 2) := dk_16 24 (dk_at dksX1_unlikeKeys_0 5 rfl rfl)
theorem dX1_unlikeKeys_7 : decode cX1_unlikeKeys 7 = .ok (.if_icmp .ge 38, 3) := dk_162 0 38 (dk_at dksX1_unlikeKeys_0 7 rfl rfl)
theorem dX1_unlikeKeys_10 : decode cX1_unlikeKeys 10 = .ok (.iload_n 2, 1) := dk_28 (dk_at dksX1_unlikeKeys_0 10 rfl rfl)
theorem dX1_unlikeKeys_11 : decode cX1_unlikeKeys 11 = .ok (.aload_n 0, 1) := dk_42 (dk_at dksX1_unlikeKeys_0 11 rfl rfl)
theorem dX1_unlikeKeys_12 : decode cX1_unlikeKeys 12 = .ok (.iload_n 3, 1) := dk_29 (dk_at dksX1_unlikeKeys_0 12 rfl rfl)
theorem dX1_unlikeKeys_13 : decode cX1_unlikeKeys 13 = .ok (.iload_n 1, 1) := dk_27 (dk_at dksX1_unlikeKeys_0 13 rfl rfl)
theorem dX1_unlikeKeys_14 : decode cX1_unlikeKeys 14 = .ok (.invokevirtual 98, 3) := dk_182 0 98 (dk_at dksX1_unlikeKeys_0 14 rfl rfl)
theorem dX1_unlikeKeys_17 : decode cX1_unlikeKeys 17 = .ok (.aload_n 0, 1) := dk_42 (dk_at dksX1_unlikeKeys_0 17 rfl rfl)
theorem dX1_unlikeKeys_18 : decode cX1_unlikeKeys 18 = .ok (.iload_n 3, 1) := dk_29 (dk_at dksX1_unlikeKeys_0 18 rfl rfl)
theorem dX1_unlikeKeys_19 : decode cX1_unlikeKeys 19 = .ok (.aload_n 0, 1) := dk_42 (dk_at dksX1_unlikeKeys_0 19 rfl rfl)
theorem dX1_unlikeKeys_20 : decode cX1_unlikeKeys 20 = .ok (.getfield 31, 3) := dk_180 0 31 (dk_at dksX1_unlikeKeys_0 20 rfl rfl)
theorem dX1_unlikeKeys_23 : decode cX1_unlikeKeys 23 = .ok (.invokevirtual 100, 3) := dk_182 0 100 (dk_at dksX1_unlikeKeys_1 0 rfl rfl)
theorem dX1_unlikeKeys_26 : decode cX1_unlikeKeys 26 = .ok (.invokevirtual 98, 3) := dk_182 0 98 (dk_at dksX1_unlikeKeys_1 3 rfl rfl)
theorem dX1_unlikeKeys_29 : decode cX1_unlikeKeys 29 = .ok (.if_icmp .ne 7, 3) := dk_160 0 7 (dk_at dksX1_unlikeKeys_1 6 rfl rfl)
theorem dX1_unlikeKeys_32 : decode cX1_unlikeKeys 32 = .ok (.iconst 0, 1) := dk_3 (dk_at dksX1_unlikeKeys_1 9 rfl rfl)
theorem dX1_unlikeKeys_33 : decode cX1_unlikeKeys 33 = .ok (.goto 4, 3) := dk_167 0 4 (dk_at dksX1_unlikeKeys_1 10 rfl rfl)
theorem dX1_unlikeKeys_36 : decode cX1_unlikeKeys 36 = .ok (.iconst 1, 1) := dk_4 (dk_at dksX1_unlikeKeys_1 13 rfl rfl)
theorem dX1_unlikeKeys_37 : decode cX1_unlikeKeys 37 = .ok (.iadd, 1) := dk_96 (dk_at dksX1_unlikeKeys_1 14 rfl rfl)
theorem dX1_unlikeKeys_38 : decode cX1_unlikeKeys 38 = .ok (.istore_n 2, 1) := dk_61 (dk_at dksX1_unlikeKeys_1 15 rfl rfl)
theorem dX1_unlikeKeys_39 : decode cX1_unlikeKeys 39 = .ok (.iinc 3 1, 3) := dk_132 3 1 (dk_at dksX1_unlikeKeys_1 16 rfl rfl)
theorem dX1_unlikeKeys_42 : decode cX1_unlikeKeys 42 = .ok (.goto (-38), 3) := dk_167 255 218 (dk_at dksX1_unlikeKeys_1 19 rfl rfl)
theorem dX1_unlikeKeys_45 : decode cX1_unlikeKeys 45 = .ok (.iload_n 2, 1) := dk_28 (dk_at dksX1_unlikeKeys_1 22 rfl rfl)
theorem dX1_unlikeKeys_46 : decode cX1_unlikeKeys 46 = .ok (.ireturn, 1) := dk_172 (dk_at dksX1_unlikeKeys_1 23 rfl rfl)
abbrev cX1_puts_2 : ByteArray := prog_8_method_9_code
def yX1_puts_2 : MethodName := ⟨RX1, "puts", "(I)I"⟩
def dkwX1_puts_2_2 : List UInt8 := [132, 3, 1, 167, 255, 210, 28, 172]
abbrev dktX1_puts_2_2 : List UInt8 := dkwX1_puts_2_2 ++ []
def dkwX1_puts_2_1 : List UInt8 := [192, 0, 72, 3, 42, 180, 0, 9, 27, 46, 182, 0, 74, 153, 0, 7, 4, 167, 0, 4, 3, 96, 61]
abbrev dktX1_puts_2_1 : List UInt8 := dkwX1_puts_2_1 ++ dktX1_puts_2_2
def dkwX1_puts_2_0 : List UInt8 := [3, 61, 4, 62, 29, 42, 180, 0, 31, 182, 0, 100, 163, 0, 41, 28, 42, 180, 0, 31, 29, 182, 0, 68]
abbrev dktX1_puts_2_0 : List UInt8 := dkwX1_puts_2_0 ++ dktX1_puts_2_1
theorem dksX1_puts_2_0 : cX1_puts_2.data.toList.drop 0 = dktX1_puts_2_0 := by decide +kernel
theorem dksX1_puts_2_1 : cX1_puts_2.data.toList.drop 24 = dktX1_puts_2_1 := dk_seg dksX1_puts_2_0 24 rfl rfl
theorem dksX1_puts_2_2 : cX1_puts_2.data.toList.drop 47 = dktX1_puts_2_2 := dk_seg dksX1_puts_2_1 23 rfl rfl
theorem dX1_puts_2_0 : decode cX1_puts_2 0 = .ok (.iconst 0, 1) := dk_3 (dk_at dksX1_puts_2_0 0 rfl rfl)
theorem dX1_puts_2_1 : decode cX1_puts_2 1 = .ok (.istore_n 2, 1) := dk_61 (dk_at dksX1_puts_2_0 1 rfl rfl)
theorem dX1_puts_2_2 : decode cX1_puts_2 2 = .ok (.iconst 1, 1) := dk_4 (dk_at dksX1_puts_2_0 2 rfl rfl)
theorem dX1_puts_2_3 : decode cX1_puts_2 3 = .ok (.istore_n 3, 1) := dk_62 (dk_at dksX1_puts_2_0 3 rfl rfl)
theorem dX1_puts_2_4 : decode cX1_puts_2 4 = .ok (.iload_n 3, 1) := dk_29 (dk_at dksX1_puts_2_0 4 rfl rfl)
theorem dX1_puts_2_5 : decode cX1_puts_2 5 = .ok (.aload_n 0, 1) := dk_42 (dk_at dksX1_puts_2_0 5 rfl rfl)
theorem dX1_puts_2_6 : decode cX1_puts_2 6 = .ok (.getfield 31, 3) := dk_180 0 31 (dk_at dksX1_puts_2_0 6 rfl rfl)
theorem dX1_puts_2_9 : decode cX1_puts_2 9 = .ok (.invokevirtual 100, 3) := dk_182 0 100 (dk_at dksX1_puts_2_0 9 rfl rfl)
theorem dX1_puts_2_12 : decode cX1_puts_2 12 = .ok (.if_icmp .gt 41, 3) := dk_163 0 41 (dk_at dksX1_puts_2_0 12 rfl rfl)
theorem dX1_puts_2_15 : decode cX1_puts_2 15 = .ok (.iload_n 2, 1) := dk_28 (dk_at dksX1_puts_2_0 15 rfl rfl)
theorem dX1_puts_2_16 : decode cX1_puts_2 16 = .ok (.aload_n 0, 1) := dk_42 (dk_at dksX1_puts_2_0 16 rfl rfl)
theorem dX1_puts_2_17 : decode cX1_puts_2 17 = .ok (.getfield 31, 3) := dk_180 0 31 (dk_at dksX1_puts_2_0 17 rfl rfl)
theorem dX1_puts_2_20 : decode cX1_puts_2 20 = .ok (.iload_n 3, 1) := dk_29 (dk_at dksX1_puts_2_0 20 rfl rfl)
theorem dX1_puts_2_21 : decode cX1_puts_2 21 = .ok (.invokevirtual 68, 3) := dk_182 0 68 (dk_at dksX1_puts_2_0 21 rfl rfl)
theorem dX1_puts_2_24 : decode cX1_puts_2 24 = .ok (.checkcast 72, 3) := dk_192 0 72 (dk_at dksX1_puts_2_1 0 rfl rfl)
theorem dX1_puts_2_27 : decode cX1_puts_2 27 = .ok (.iconst 0, 1) := dk_3 (dk_at dksX1_puts_2_1 3 rfl rfl)
theorem dX1_puts_2_28 : decode cX1_puts_2 28 = .ok (.aload_n 0, 1) := dk_42 (dk_at dksX1_puts_2_1 4 rfl rfl)
theorem dX1_puts_2_29 : decode cX1_puts_2 29 = .ok (.getfield 9, 3) := dk_180 0 9 (dk_at dksX1_puts_2_1 5 rfl rfl)
theorem dX1_puts_2_32 : decode cX1_puts_2 32 = .ok (.iload_n 1, 1) := dk_27 (dk_at dksX1_puts_2_1 8 rfl rfl)
theorem dX1_puts_2_33 : decode cX1_puts_2 33 = .ok (.iaload, 1) := dk_46 (dk_at dksX1_puts_2_1 9 rfl rfl)
theorem dX1_puts_2_34 : decode cX1_puts_2 34 = .ok (.invokevirtual 74, 3) := dk_182 0 74 (dk_at dksX1_puts_2_1 10 rfl rfl)
theorem dX1_puts_2_37 : decode cX1_puts_2 37 = .ok (.ifCond .eq 7, 3) := dk_153 0 7 (dk_at dksX1_puts_2_1 13 rfl rfl)
theorem dX1_puts_2_40 : decode cX1_puts_2 40 = .ok (.iconst 1, 1) := dk_4 (dk_at dksX1_puts_2_1 16 rfl rfl)
theorem dX1_puts_2_41 : decode cX1_puts_2 41 = .ok (.goto 4, 3) := dk_167 0 4 (dk_at dksX1_puts_2_1 17 rfl rfl)
theorem dX1_puts_2_44 : decode cX1_puts_2 44 = .ok (.iconst 0, 1) := dk_3 (dk_at dksX1_puts_2_1 20 rfl rfl)
theorem dX1_puts_2_45 : decode cX1_puts_2 45 = .ok (.iadd, 1) := dk_96 (dk_at dksX1_puts_2_1 21 rfl rfl)
theorem dX1_puts_2_46 : decode cX1_puts_2 46 = .ok (.istore_n 2, 1) := dk_61 (dk_at dksX1_puts_2_1 22 rfl rfl)
theorem dX1_puts_2_47 : decode cX1_puts_2 47 = .ok (.iinc 3 1, 3) := dk_132 3 1 (dk_at dksX1_puts_2_2 0 rfl rfl)
theorem dX1_puts_2_50 : decode cX1_puts_2 50 = .ok (.goto (-46), 3) := dk_167 255 210 (dk_at dksX1_puts_2_2 3 rfl rfl)
theorem dX1_puts_2_53 : decode cX1_puts_2 53 = .ok (.iload_n 2, 1) := dk_28 (dk_at dksX1_puts_2_2 6 rfl rfl)
theorem dX1_puts_2_54 : decode cX1_puts_2 54 = .ok (.ireturn, 1) := dk_172 (dk_at dksX1_puts_2_2 7 rfl rfl)
theorem q55 : (Jvm.Cond.initialized "FencedStandbys$Store") ∈ lw_all := lw_g (lw_at lw_m1 2 rfl) rfl
theorem q95 : (Jvm.Cond.instantiable "FencedStandbys$Store" (10 : Nat)) ∈ lw_all := lw_g (lw_at lw_m1 42 rfl) rfl
theorem q97 : (Jvm.Cond.instanceMethod ({ cls := "FencedStandbys$Store", name := "<init>", desc := "()V" } : Jvm.MethodName)) ∈ lw_all := lw_g (lw_at lw_m1 44 rfl) rfl
theorem q98 : (Jvm.Cond.code ({ cls := "FencedStandbys$Store", name := "<init>", desc := "()V" } : Jvm.MethodName) prog_8_method_1_code (1 : Nat) (Option.none : Option Jvm.ClassFile.FieldType)) ∈ lw_all := lw_g (lw_at lw_m1 45 rfl) rfl
theorem q99 : (Jvm.Cond.methodLink "FencedStandbys$Store" (3 : Nat) ({ cls := "java/lang/Object", name := "<init>", desc := "()V" } : Jvm.MethodName)) ∈ lw_all := lw_g (lw_at lw_m1 46 rfl) rfl
theorem q100 : (Jvm.Cond.classLink "FencedStandbys$Store" (15 : Nat) "FencedStandbys$Standby") ∈ lw_all := lw_g (lw_at lw_m1 47 rfl) rfl
theorem q102 : (Jvm.Cond.classLink "FencedStandbys$Store" (28 : Nat) "FencedStandbys$Journal") ∈ lw_all := lw_g (lw_at lw_m1 49 rfl) rfl
theorem q104 : (Jvm.Cond.methodLink "FencedStandbys$Store" (30 : Nat) ({ cls := "FencedStandbys$Journal", name := "<init>", desc := "()V" } : Jvm.MethodName)) ∈ lw_all := lw_g (lw_at lw_m1 51 rfl) rfl
theorem q143 : (Jvm.Cond.methodLink "FencedStandbys$Store" (35 : Nat) ({ cls := "FencedStandbys$Standby", name := "<init>", desc := "()V" } : Jvm.MethodName)) ∈ lw_all := lw_g (lw_at lw_m1 90 rfl) rfl
theorem q172 : (Jvm.Cond.fieldLinkNest "FencedStandbys$Store" (129 : Nat) "FencedStandbys$Standby" "received" "I" "FencedStandbys") ∈ lw_tbl := lw_at lw_m1 119 rfl
theorem q175 : (Jvm.Cond.fieldLinkNest "FencedStandbys$Store" (137 : Nat) "FencedStandbys$Standby" "applied" "I" "FencedStandbys") ∈ lw_tbl := lw_at lw_m1 122 rfl
theorem q178 : (Jvm.Cond.fieldLinkNest "FencedStandbys$Store" (138 : Nat) "FencedStandbys$Standby" "gaps" "Ljava/util/BitSet;" "FencedStandbys") ∈ lw_tbl := lw_at lw_m1 125 rfl
theorem q181 : (Jvm.Cond.fieldLinkNest "FencedStandbys$Store" (121 : Nat) "FencedStandbys$Standby" "isAstray" "Z" "FencedStandbys") ∈ lw_tbl := lw_at lw_m1 128 rfl
theorem q192 : (Jvm.Cond.fieldLink "FencedStandbys$Store" (31 : Nat) "FencedStandbys$Store" "log" "LFencedStandbys$Journal;") ∈ lw_all := lw_g (lw_at lw_m1 139 rfl) rfl
theorem q194 : (Jvm.Cond.fieldLink "FencedStandbys$Store" (9 : Nat) "FencedStandbys$Store" "slots" "[I") ∈ lw_all := lw_g (lw_at lw_m1 141 rfl) rfl
theorem q196 : (Jvm.Cond.fieldLink "FencedStandbys$Store" (17 : Nat) "FencedStandbys$Store" "standbys" "[LFencedStandbys$Standby;") ∈ lw_all := lw_g (lw_at lw_m1 143 rfl) rfl
theorem q198 : (Jvm.Cond.fieldLink "FencedStandbys$Store" (21 : Nat) "FencedStandbys$Store" "settings" "[I") ∈ lw_all := lw_g (lw_at lw_m1 145 rfl) rfl
theorem q200 : (Jvm.Cond.fieldLink "FencedStandbys$Store" (53 : Nat) "FencedStandbys$Store" "tick" "I") ∈ lw_all := lw_g (lw_at lw_m1 147 rfl) rfl
theorem q202 : (Jvm.Cond.fieldLink "FencedStandbys$Store" (24 : Nat) "FencedStandbys$Store" "timeline" "I") ∈ lw_all := lw_g (lw_at lw_m1 149 rfl) rfl
theorem q204 : (Jvm.Cond.fieldLink "FencedStandbys$Store" (56 : Nat) "FencedStandbys$Store" "transactions" "I") ∈ lw_all := lw_g (lw_at lw_m1 151 rfl) rfl
theorem q206 : (Jvm.Cond.fieldLink "FencedStandbys$Store" (59 : Nat) "FencedStandbys$Store" "lostCommits" "I") ∈ lw_all := lw_g (lw_at lw_m1 153 rfl) rfl
theorem q208 : (Jvm.Cond.fieldLink "FencedStandbys$Store" (62 : Nat) "FencedStandbys$Store" "lostRecords" "I") ∈ lw_all := lw_g (lw_at lw_m1 155 rfl) rfl
theorem q210 : (Jvm.Cond.fieldLink "FencedStandbys$Store" (65 : Nat) "FencedStandbys$Store" "applied" "I") ∈ lw_all := lw_g (lw_at lw_m1 157 rfl) rfl
theorem q212 : (Jvm.Cond.laysFinal "FencedStandbys$Store" "FencedStandbys$Store" "log" "LFencedStandbys$Journal;") ∈ lw_all := lw_g (lw_at lw_m1 159 rfl) rfl
theorem q213 : (Jvm.Cond.soleField "FencedStandbys$Store" "log") ∈ lw_all := lw_g (lw_at lw_m1 160 rfl) rfl
theorem q214 : (Jvm.Cond.laysFinal "FencedStandbys$Store" "FencedStandbys$Store" "slots" "[I") ∈ lw_all := lw_g (lw_at lw_m1 161 rfl) rfl
theorem q215 : (Jvm.Cond.soleField "FencedStandbys$Store" "slots") ∈ lw_all := lw_g (lw_at lw_m1 162 rfl) rfl
theorem q216 : (Jvm.Cond.laysFinal "FencedStandbys$Store" "FencedStandbys$Store" "standbys" "[LFencedStandbys$Standby;") ∈ lw_all := lw_g (lw_at lw_m1 163 rfl) rfl
theorem q217 : (Jvm.Cond.soleField "FencedStandbys$Store" "standbys") ∈ lw_all := lw_g (lw_at lw_m1 164 rfl) rfl
theorem q218 : (Jvm.Cond.lays "FencedStandbys$Store" "FencedStandbys$Store" "settings" "[I") ∈ lw_all := lw_g (lw_at lw_m1 165 rfl) rfl
theorem q219 : (Jvm.Cond.soleField "FencedStandbys$Store" "settings") ∈ lw_all := lw_g (lw_at lw_m1 166 rfl) rfl
theorem q220 : (Jvm.Cond.lays "FencedStandbys$Store" "FencedStandbys$Store" "tick" "I") ∈ lw_all := lw_g (lw_at lw_m1 167 rfl) rfl
theorem q221 : (Jvm.Cond.soleField "FencedStandbys$Store" "tick") ∈ lw_all := lw_g (lw_at lw_m1 168 rfl) rfl
theorem q222 : (Jvm.Cond.lays "FencedStandbys$Store" "FencedStandbys$Store" "timeline" "I") ∈ lw_all := lw_g (lw_at lw_m1 169 rfl) rfl
theorem q223 : (Jvm.Cond.soleField "FencedStandbys$Store" "timeline") ∈ lw_all := lw_g (lw_at lw_m1 170 rfl) rfl
theorem q224 : (Jvm.Cond.lays "FencedStandbys$Store" "FencedStandbys$Store" "transactions" "I") ∈ lw_all := lw_g (lw_at lw_m1 171 rfl) rfl
theorem q225 : (Jvm.Cond.soleField "FencedStandbys$Store" "transactions") ∈ lw_all := lw_g (lw_at lw_m1 172 rfl) rfl
theorem q226 : (Jvm.Cond.lays "FencedStandbys$Store" "FencedStandbys$Store" "lostCommits" "I") ∈ lw_all := lw_g (lw_at lw_m1 173 rfl) rfl
theorem q227 : (Jvm.Cond.soleField "FencedStandbys$Store" "lostCommits") ∈ lw_all := lw_g (lw_at lw_m1 174 rfl) rfl
theorem q228 : (Jvm.Cond.lays "FencedStandbys$Store" "FencedStandbys$Store" "lostRecords" "I") ∈ lw_all := lw_g (lw_at lw_m1 175 rfl) rfl
theorem q229 : (Jvm.Cond.soleField "FencedStandbys$Store" "lostRecords") ∈ lw_all := lw_g (lw_at lw_m1 176 rfl) rfl
theorem q230 : (Jvm.Cond.lays "FencedStandbys$Store" "FencedStandbys$Store" "applied" "I") ∈ lw_all := lw_g (lw_at lw_m1 177 rfl) rfl
theorem q231 : (Jvm.Cond.soleField "FencedStandbys$Store" "applied") ∈ lw_all := lw_g (lw_at lw_m1 178 rfl) rfl
theorem q232 : (Jvm.Cond.superclass "FencedStandbys$Store" "java/lang/Object") ∈ lw_all := lw_g (lw_at lw_m1 179 rfl) rfl
theorem q305 : (Jvm.Cond.instanceMethod ({ cls := "FencedStandbys$Store", name := "<init>", desc := "(LFencedStandbys$Store;)V" } : Jvm.MethodName)) ∈ lw_all := lw_g (lw_at lw_m2 12 rfl) rfl
theorem q306 : (Jvm.Cond.code ({ cls := "FencedStandbys$Store", name := "<init>", desc := "(LFencedStandbys$Store;)V" } : Jvm.MethodName) prog_8_method_2_code (2 : Nat) (Option.none : Option Jvm.ClassFile.FieldType)) ∈ lw_all := lw_g (lw_at lw_m2 13 rfl) rfl
theorem q307 : (Jvm.Cond.methodLink "FencedStandbys$Store" (36 : Nat) ({ cls := "FencedStandbys$Journal", name := "<init>", desc := "(LFencedStandbys$Journal;)V" } : Jvm.MethodName)) ∈ lw_all := lw_g (lw_at lw_m2 14 rfl) rfl
theorem q396 : (Jvm.Cond.selects "FencedStandbys$Store" ({ cls := "java/lang/Object", name := "getClass", desc := "()Ljava/lang/Class;" } : Jvm.MethodName) ({ cls := "java/lang/Object", name := "getClass", desc := "()Ljava/lang/Class;" } : Jvm.MethodName)) ∈ lw_all := lw_g (lw_at lw_m2 103 rfl) rfl
theorem q417 : (Jvm.Cond.methodLink "FencedStandbys$Store" (39 : Nat) ({ cls := "java/lang/System", name := "arraycopy", desc := "(Ljava/lang/Object;ILjava/lang/Object;II)V" } : Jvm.MethodName)) ∈ lw_all := lw_g (lw_at lw_m2 124 rfl) rfl
theorem q418 : (Jvm.Cond.methodLink "FencedStandbys$Store" (45 : Nat) ({ cls := "FencedStandbys$Standby", name := "<init>", desc := "(LFencedStandbys$Standby;)V" } : Jvm.MethodName)) ∈ lw_all := lw_g (lw_at lw_m2 125 rfl) rfl
theorem q448 : (Jvm.Cond.methodLink "FencedStandbys$Store" (48 : Nat) ({ cls := "[I", name := "clone", desc := "()Ljava/lang/Object;" } : Jvm.MethodName)) ∈ lw_all := lw_g (lw_at lw_m2 155 rfl) rfl
theorem q452 : (Jvm.Cond.classLink "FencedStandbys$Store" (49 : Nat) "[I") ∈ lw_all := lw_g (lw_at lw_m2 159 rfl) rfl
theorem q622 : (Jvm.Cond.instanceMethod ({ cls := "FencedStandbys$Store", name := "opened", desc := "(I)I" } : Jvm.MethodName)) ∈ lw_all := lw_g (lw_at lw_m3 89 rfl) rfl
theorem q623 : (Jvm.Cond.selects "FencedStandbys$Store" ({ cls := "FencedStandbys$Store", name := "opened", desc := "(I)I" } : Jvm.MethodName) ({ cls := "FencedStandbys$Store", name := "opened", desc := "(I)I" } : Jvm.MethodName)) ∈ lw_all := lw_g (lw_at lw_m3 90 rfl) rfl
theorem q624 : (Jvm.Cond.code ({ cls := "FencedStandbys$Store", name := "opened", desc := "(I)I" } : Jvm.MethodName) prog_8_method_11_code (2 : Nat) (Option.some Jvm.ClassFile.FieldType.int)) ∈ lw_all := lw_g (lw_at lw_m3 91 rfl) rfl
theorem q625 : (Jvm.Cond.classLink "FencedStandbys$Store" (104 : Nat) "FencedStandbys$Refused") ∈ lw_all := lw_g (lw_at lw_m3 92 rfl) rfl
theorem q626 : (Jvm.Cond.constant "FencedStandbys$Store" (106 : Nat) (-1000002 : Int32)) ∈ lw_all := lw_g (lw_at lw_m3 93 rfl) rfl
theorem q627 : (Jvm.Cond.methodLink "FencedStandbys$Store" (107 : Nat) ({ cls := "FencedStandbys$Refused", name := "<init>", desc := "(I)V" } : Jvm.MethodName)) ∈ lw_all := lw_g (lw_at lw_m3 94 rfl) rfl
theorem q629 : (Jvm.Cond.instanceMethod ({ cls := "FencedStandbys$Store", name := "puts", desc := "(III)I" } : Jvm.MethodName)) ∈ lw_all := lw_g (lw_at lw_m3 96 rfl) rfl
theorem q630 : (Jvm.Cond.selects "FencedStandbys$Store" ({ cls := "FencedStandbys$Store", name := "puts", desc := "(III)I" } : Jvm.MethodName) ({ cls := "FencedStandbys$Store", name := "puts", desc := "(III)I" } : Jvm.MethodName)) ∈ lw_all := lw_g (lw_at lw_m3 97 rfl) rfl
theorem q631 : (Jvm.Cond.code ({ cls := "FencedStandbys$Store", name := "puts", desc := "(III)I" } : Jvm.MethodName) prog_8_method_12_code (4 : Nat) (Option.some Jvm.ClassFile.FieldType.int)) ∈ lw_all := lw_g (lw_at lw_m3 98 rfl) rfl
theorem q632 : (Jvm.Cond.methodLink "FencedStandbys$Store" (111 : Nat) ({ cls := "FencedStandbys$Store", name := "need", desc := "(I)V" } : Jvm.MethodName)) ∈ lw_all := lw_g (lw_at lw_m3 99 rfl) rfl
theorem q633 : (Jvm.Cond.privateMethod ({ cls := "FencedStandbys$Store", name := "need", desc := "(I)V" } : Jvm.MethodName)) ∈ lw_tbl := lw_at lw_m3 100 rfl
theorem q634 : (Jvm.Cond.instanceMethod ({ cls := "FencedStandbys$Store", name := "need", desc := "(I)V" } : Jvm.MethodName)) ∈ lw_all := lw_g (lw_at lw_m3 101 rfl) rfl
theorem q635 : (Jvm.Cond.code ({ cls := "FencedStandbys$Store", name := "need", desc := "(I)V" } : Jvm.MethodName) prog_8_method_10_code (2 : Nat) (Option.none : Option Jvm.ClassFile.FieldType)) ∈ lw_all := lw_g (lw_at lw_m3 102 rfl) rfl
theorem q636 : (Jvm.Cond.methodLink "FencedStandbys$Store" (100 : Nat) ({ cls := "FencedStandbys$Journal", name := "size", desc := "()I" } : Jvm.MethodName)) ∈ lw_all := lw_g (lw_at lw_m3 103 rfl) rfl
theorem q644 : (Jvm.Cond.constant "FencedStandbys$Store" (110 : Nat) (-1000003 : Int32)) ∈ lw_all := lw_g (lw_at lw_m3 111 rfl) rfl
theorem q645 : (Jvm.Cond.classLink "FencedStandbys$Store" (72 : Nat) "FencedStandbys$Note") ∈ lw_all := lw_g (lw_at lw_m3 112 rfl) rfl
theorem q647 : (Jvm.Cond.methodLink "FencedStandbys$Store" (114 : Nat) ({ cls := "FencedStandbys$Note", name := "<init>", desc := "(III[I)V" } : Jvm.MethodName)) ∈ lw_all := lw_g (lw_at lw_m3 114 rfl) rfl
theorem q652 : (Jvm.Cond.fieldLinkNest "FencedStandbys$Store" (84 : Nat) "FencedStandbys$Note" "kind" "I" "FencedStandbys") ∈ lw_tbl := lw_at lw_m3 119 rfl
theorem q654 : (Jvm.Cond.fieldLinkNest "FencedStandbys$Store" (87 : Nat) "FencedStandbys$Note" "transaction" "I" "FencedStandbys") ∈ lw_tbl := lw_at lw_m3 121 rfl
theorem q656 : (Jvm.Cond.fieldLinkNest "FencedStandbys$Store" (78 : Nat) "FencedStandbys$Note" "key" "I" "FencedStandbys") ∈ lw_tbl := lw_at lw_m3 123 rfl
theorem q658 : (Jvm.Cond.fieldLinkNest "FencedStandbys$Store" (81 : Nat) "FencedStandbys$Note" "value" "I" "FencedStandbys") ∈ lw_tbl := lw_at lw_m3 125 rfl
theorem q672 : (Jvm.Cond.methodLink "FencedStandbys$Store" (117 : Nat) ({ cls := "FencedStandbys$Journal", name := "add", desc := "(LFencedStandbys$Written;)I" } : Jvm.MethodName)) ∈ lw_all := lw_g (lw_at lw_m3 139 rfl) rfl
theorem q677 : (Jvm.Cond.instanceMethod ({ cls := "FencedStandbys$Store", name := "ends", desc := "(II)I" } : Jvm.MethodName)) ∈ lw_all := lw_g (lw_at lw_m3 144 rfl) rfl
theorem q678 : (Jvm.Cond.selects "FencedStandbys$Store" ({ cls := "FencedStandbys$Store", name := "ends", desc := "(II)I" } : Jvm.MethodName) ({ cls := "FencedStandbys$Store", name := "ends", desc := "(II)I" } : Jvm.MethodName)) ∈ lw_all := lw_g (lw_at lw_m3 145 rfl) rfl
theorem q679 : (Jvm.Cond.code ({ cls := "FencedStandbys$Store", name := "ends", desc := "(II)I" } : Jvm.MethodName) prog_8_method_13_code (4 : Nat) (Option.some Jvm.ClassFile.FieldType.int)) ∈ lw_all := lw_g (lw_at lw_m3 146 rfl) rfl
theorem q681 : (Jvm.Cond.instanceMethod ({ cls := "FencedStandbys$Store", name := "ships", desc := "(II)I" } : Jvm.MethodName)) ∈ lw_all := lw_g (lw_at lw_m3 148 rfl) rfl
theorem q682 : (Jvm.Cond.selects "FencedStandbys$Store" ({ cls := "FencedStandbys$Store", name := "ships", desc := "(II)I" } : Jvm.MethodName) ({ cls := "FencedStandbys$Store", name := "ships", desc := "(II)I" } : Jvm.MethodName)) ∈ lw_all := lw_g (lw_at lw_m3 149 rfl) rfl
theorem q683 : (Jvm.Cond.code ({ cls := "FencedStandbys$Store", name := "ships", desc := "(II)I" } : Jvm.MethodName) prog_8_method_15_code (5 : Nat) (Option.some Jvm.ClassFile.FieldType.int)) ∈ lw_all := lw_g (lw_at lw_m3 150 rfl) rfl
theorem q684 : (Jvm.Cond.methodLink "FencedStandbys$Store" (125 : Nat) ({ cls := "FencedStandbys$Store", name := "well", desc := "(I)LFencedStandbys$Standby;" } : Jvm.MethodName)) ∈ lw_all := lw_g (lw_at lw_m3 151 rfl) rfl
theorem q685 : (Jvm.Cond.privateMethod ({ cls := "FencedStandbys$Store", name := "well", desc := "(I)LFencedStandbys$Standby;" } : Jvm.MethodName)) ∈ lw_tbl := lw_at lw_m3 152 rfl
theorem q686 : (Jvm.Cond.instanceMethod ({ cls := "FencedStandbys$Store", name := "well", desc := "(I)LFencedStandbys$Standby;" } : Jvm.MethodName)) ∈ lw_all := lw_g (lw_at lw_m3 153 rfl) rfl
theorem q687 : (Jvm.Cond.code ({ cls := "FencedStandbys$Store", name := "well", desc := "(I)LFencedStandbys$Standby;" } : Jvm.MethodName) prog_8_method_14_code (2 : Nat) (Option.some (Jvm.ClassFile.FieldType.object "FencedStandbys$Standby"))) ∈ lw_all := lw_g (lw_at lw_m3 154 rfl) rfl
theorem q688 : (Jvm.Cond.methodLink "FencedStandbys$Store" (132 : Nat) ({ cls := "java/lang/Math", name := "min", desc := "(II)I" } : Jvm.MethodName)) ∈ lw_all := lw_g (lw_at lw_m3 155 rfl) rfl
theorem q690 : (Jvm.Cond.instanceMethod ({ cls := "FencedStandbys$Store", name := "loses", desc := "(II)I" } : Jvm.MethodName)) ∈ lw_all := lw_g (lw_at lw_m3 157 rfl) rfl
theorem q691 : (Jvm.Cond.selects "FencedStandbys$Store" ({ cls := "FencedStandbys$Store", name := "loses", desc := "(II)I" } : Jvm.MethodName) ({ cls := "FencedStandbys$Store", name := "loses", desc := "(II)I" } : Jvm.MethodName)) ∈ lw_all := lw_g (lw_at lw_m3 158 rfl) rfl
theorem q692 : (Jvm.Cond.code ({ cls := "FencedStandbys$Store", name := "loses", desc := "(II)I" } : Jvm.MethodName) prog_8_method_16_code (4 : Nat) (Option.some Jvm.ClassFile.FieldType.int)) ∈ lw_all := lw_g (lw_at lw_m3 159 rfl) rfl
theorem q693 : (Jvm.Cond.methodLink "FencedStandbys$Store" (142 : Nat) ({ cls := "java/util/BitSet", name := "get", desc := "(I)Z" } : Jvm.MethodName)) ∈ lw_all := lw_g (lw_at lw_m3 160 rfl) rfl
theorem q697 : (Jvm.Cond.methodLink "FencedStandbys$Store" (148 : Nat) ({ cls := "java/util/BitSet", name := "set", desc := "(I)V" } : Jvm.MethodName)) ∈ lw_all := lw_g (lw_at lw_m3 164 rfl) rfl
theorem q705 : (Jvm.Cond.methodLink "FencedStandbys$Store" (151 : Nat) ({ cls := "java/util/BitSet", name := "cardinality", desc := "()I" } : Jvm.MethodName)) ∈ lw_all := lw_g (lw_at lw_m3 172 rfl) rfl
theorem q716 : (Jvm.Cond.instanceMethod ({ cls := "FencedStandbys$Store", name := "resends", desc := "(I)I" } : Jvm.MethodName)) ∈ lw_all := lw_g (lw_at lw_m3 183 rfl) rfl
theorem q717 : (Jvm.Cond.selects "FencedStandbys$Store" ({ cls := "FencedStandbys$Store", name := "resends", desc := "(I)I" } : Jvm.MethodName) ({ cls := "FencedStandbys$Store", name := "resends", desc := "(I)I" } : Jvm.MethodName)) ∈ lw_all := lw_g (lw_at lw_m3 184 rfl) rfl
theorem q718 : (Jvm.Cond.code ({ cls := "FencedStandbys$Store", name := "resends", desc := "(I)I" } : Jvm.MethodName) prog_8_method_17_code (4 : Nat) (Option.some Jvm.ClassFile.FieldType.int)) ∈ lw_all := lw_g (lw_at lw_m3 185 rfl) rfl
theorem q719 : (Jvm.Cond.methodLink "FencedStandbys$Store" (154 : Nat) ({ cls := "java/util/BitSet", name := "clear", desc := "()V" } : Jvm.MethodName)) ∈ lw_all := lw_g (lw_at lw_m3 186 rfl) rfl
theorem q724 : (Jvm.Cond.instanceMethod ({ cls := "FencedStandbys$Store", name := "promotes", desc := "(I)I" } : Jvm.MethodName)) ∈ lw_all := lw_g (lw_at lw_m3 191 rfl) rfl
theorem q725 : (Jvm.Cond.selects "FencedStandbys$Store" ({ cls := "FencedStandbys$Store", name := "promotes", desc := "(I)I" } : Jvm.MethodName) ({ cls := "FencedStandbys$Store", name := "promotes", desc := "(I)I" } : Jvm.MethodName)) ∈ lw_all := lw_g (lw_at lw_m3 192 rfl) rfl
theorem q726 : (Jvm.Cond.code ({ cls := "FencedStandbys$Store", name := "promotes", desc := "(I)I" } : Jvm.MethodName) prog_8_method_21_code (6 : Nat) (Option.some Jvm.ClassFile.FieldType.int)) ∈ lw_all := lw_g (lw_at lw_m3 193 rfl) rfl
theorem q727 : (Jvm.Cond.methodLink "FencedStandbys$Store" (174 : Nat) ({ cls := "FencedStandbys$Store", name := "commitsBehind", desc := "(I)I" } : Jvm.MethodName)) ∈ lw_all := lw_g (lw_at lw_m3 194 rfl) rfl
theorem q728 : (Jvm.Cond.instanceMethod ({ cls := "FencedStandbys$Store", name := "commitsBehind", desc := "(I)I" } : Jvm.MethodName)) ∈ lw_all := lw_g (lw_at lw_m3 195 rfl) rfl
theorem q729 : (Jvm.Cond.selects "FencedStandbys$Store" ({ cls := "FencedStandbys$Store", name := "commitsBehind", desc := "(I)I" } : Jvm.MethodName) ({ cls := "FencedStandbys$Store", name := "commitsBehind", desc := "(I)I" } : Jvm.MethodName)) ∈ lw_all := lw_g (lw_at lw_m3 196 rfl) rfl
theorem q730 : (Jvm.Cond.code ({ cls := "FencedStandbys$Store", name := "commitsBehind", desc := "(I)I" } : Jvm.MethodName) prog_8_method_7_code (4 : Nat) (Option.some Jvm.ClassFile.FieldType.int)) ∈ lw_all := lw_g (lw_at lw_m3 197 rfl) rfl
theorem q731 : (Jvm.Cond.methodLink "FencedStandbys$Store" (68 : Nat) ({ cls := "FencedStandbys$Journal", name := "at", desc := "(I)LFencedStandbys$Written;" } : Jvm.MethodName)) ∈ lw_all := lw_g (lw_at lw_m3 198 rfl) rfl
theorem q749 : (Jvm.Cond.methodLink "FencedStandbys$Store" (178 : Nat) ({ cls := "FencedStandbys$Journal", name := "cut", desc := "(I)V" } : Jvm.MethodName)) ∈ lw_all := lw_g (lw_at lw_m3 216 rfl) rfl
theorem q762 : (Jvm.Cond.methodLink "FencedStandbys$Store" (181 : Nat) ({ cls := "FencedStandbys$Standby", name := "isAt", desc := "(IZ)V" } : Jvm.MethodName)) ∈ lw_all := lw_g (lw_at lw_m3 229 rfl) rfl
theorem q766 : (Jvm.Cond.methodLink "FencedStandbys$Store" (185 : Nat) ({ cls := "FencedStandbys$Standby", name := "cut", desc := "(I)V" } : Jvm.MethodName)) ∈ lw_all := lw_g (lw_at lw_m3 233 rfl) rfl
theorem q795 : (Jvm.Cond.instanceMethod ({ cls := "FencedStandbys$Store", name := "passes", desc := "(I)I" } : Jvm.MethodName)) ∈ lw_all := lw_g (lw_at lw_m4 22 rfl) rfl
theorem q796 : (Jvm.Cond.selects "FencedStandbys$Store" ({ cls := "FencedStandbys$Store", name := "passes", desc := "(I)I" } : Jvm.MethodName) ({ cls := "FencedStandbys$Store", name := "passes", desc := "(I)I" } : Jvm.MethodName)) ∈ lw_all := lw_g (lw_at lw_m4 23 rfl) rfl
theorem q797 : (Jvm.Cond.code ({ cls := "FencedStandbys$Store", name := "passes", desc := "(I)I" } : Jvm.MethodName) prog_8_method_20_code (8 : Nat) (Option.some Jvm.ClassFile.FieldType.int)) ∈ lw_all := lw_g (lw_at lw_m4 24 rfl) rfl
theorem q798 : (Jvm.Cond.methodLink "FencedStandbys$Store" (170 : Nat) ({ cls := "FencedStandbys$Store", name := "applies", desc := "(LFencedStandbys$Standby;)I" } : Jvm.MethodName)) ∈ lw_all := lw_g (lw_at lw_m4 25 rfl) rfl
theorem q799 : (Jvm.Cond.privateMethod ({ cls := "FencedStandbys$Store", name := "applies", desc := "(LFencedStandbys$Standby;)I" } : Jvm.MethodName)) ∈ lw_tbl := lw_at lw_m4 26 rfl
theorem q800 : (Jvm.Cond.instanceMethod ({ cls := "FencedStandbys$Store", name := "applies", desc := "(LFencedStandbys$Standby;)I" } : Jvm.MethodName)) ∈ lw_all := lw_g (lw_at lw_m4 27 rfl) rfl
theorem q801 : (Jvm.Cond.code ({ cls := "FencedStandbys$Store", name := "applies", desc := "(LFencedStandbys$Standby;)I" } : Jvm.MethodName) prog_8_method_19_code (3 : Nat) (Option.some Jvm.ClassFile.FieldType.int)) ∈ lw_all := lw_g (lw_at lw_m4 28 rfl) rfl
theorem q802 : (Jvm.Cond.methodLink "FencedStandbys$Store" (166 : Nat) ({ cls := "FencedStandbys$Store", name := "canApply", desc := "(LFencedStandbys$Standby;)Z" } : Jvm.MethodName)) ∈ lw_all := lw_g (lw_at lw_m4 29 rfl) rfl
theorem q803 : (Jvm.Cond.privateMethod ({ cls := "FencedStandbys$Store", name := "canApply", desc := "(LFencedStandbys$Standby;)Z" } : Jvm.MethodName)) ∈ lw_tbl := lw_at lw_m4 30 rfl
theorem q804 : (Jvm.Cond.instanceMethod ({ cls := "FencedStandbys$Store", name := "canApply", desc := "(LFencedStandbys$Standby;)Z" } : Jvm.MethodName)) ∈ lw_all := lw_g (lw_at lw_m4 31 rfl) rfl
theorem q805 : (Jvm.Cond.code ({ cls := "FencedStandbys$Store", name := "canApply", desc := "(LFencedStandbys$Standby;)Z" } : Jvm.MethodName) prog_8_method_18_code (3 : Nat) (Option.some Jvm.ClassFile.FieldType.boolean)) ∈ lw_all := lw_g (lw_at lw_m4 32 rfl) rfl
theorem q806 : (Jvm.Cond.methodLink "FencedStandbys$Store" (157 : Nat) ({ cls := "FencedStandbys$Standby", name := "hasNext", desc := "()Z" } : Jvm.MethodName)) ∈ lw_all := lw_g (lw_at lw_m4 33 rfl) rfl
theorem q811 : (Jvm.Cond.interfaceEntry "FencedStandbys$Store" (161 : Nat)) ∈ lw_tbl := lw_at lw_m4 38 rfl
theorem q812 : (Jvm.Cond.methodLink "FencedStandbys$Store" (161 : Nat) ({ cls := "FencedStandbys$Written", name := "isAgo", desc := "(II)Z" } : Jvm.MethodName)) ∈ lw_all := lw_g (lw_at lw_m4 39 rfl) rfl
theorem q907 : (Jvm.Cond.instanceMethod ({ cls := "FencedStandbys$Store", name := "rebuilds", desc := "(I)I" } : Jvm.MethodName)) ∈ lw_all := lw_g (lw_at lw_m4 134 rfl) rfl
theorem q908 : (Jvm.Cond.selects "FencedStandbys$Store" ({ cls := "FencedStandbys$Store", name := "rebuilds", desc := "(I)I" } : Jvm.MethodName) ({ cls := "FencedStandbys$Store", name := "rebuilds", desc := "(I)I" } : Jvm.MethodName)) ∈ lw_all := lw_g (lw_at lw_m4 135 rfl) rfl
theorem q909 : (Jvm.Cond.code ({ cls := "FencedStandbys$Store", name := "rebuilds", desc := "(I)I" } : Jvm.MethodName) prog_8_method_22_code (2 : Nat) (Option.some Jvm.ClassFile.FieldType.int)) ∈ lw_all := lw_g (lw_at lw_m4 136 rfl) rfl
theorem q915 : (Jvm.Cond.instanceMethod ({ cls := "FencedStandbys$Store", name := "setTo", desc := "(II)I" } : Jvm.MethodName)) ∈ lw_all := lw_g (lw_at lw_m4 142 rfl) rfl
theorem q916 : (Jvm.Cond.selects "FencedStandbys$Store" ({ cls := "FencedStandbys$Store", name := "setTo", desc := "(II)I" } : Jvm.MethodName) ({ cls := "FencedStandbys$Store", name := "setTo", desc := "(II)I" } : Jvm.MethodName)) ∈ lw_all := lw_g (lw_at lw_m4 143 rfl) rfl
theorem q917 : (Jvm.Cond.code ({ cls := "FencedStandbys$Store", name := "setTo", desc := "(II)I" } : Jvm.MethodName) prog_8_method_23_code (4 : Nat) (Option.some Jvm.ClassFile.FieldType.int)) ∈ lw_all := lw_g (lw_at lw_m4 144 rfl) rfl
theorem q932 : (Jvm.Cond.instanceMethod ({ cls := "FencedStandbys$Store", name := "value", desc := "(II)I" } : Jvm.MethodName)) ∈ lw_all := lw_g (lw_at lw_m4 159 rfl) rfl
theorem q933 : (Jvm.Cond.selects "FencedStandbys$Store" ({ cls := "FencedStandbys$Store", name := "value", desc := "(II)I" } : Jvm.MethodName) ({ cls := "FencedStandbys$Store", name := "value", desc := "(II)I" } : Jvm.MethodName)) ∈ lw_all := lw_g (lw_at lw_m4 160 rfl) rfl
theorem q934 : (Jvm.Cond.code ({ cls := "FencedStandbys$Store", name := "value", desc := "(II)I" } : Jvm.MethodName) prog_8_method_5_code (4 : Nat) (Option.some Jvm.ClassFile.FieldType.int)) ∈ lw_all := lw_g (lw_at lw_m4 161 rfl) rfl
theorem q935 : (Jvm.Cond.methodLink "FencedStandbys$Store" (94 : Nat) ({ cls := "FencedStandbys$Store", name := "lastCommit", desc := "(II)I" } : Jvm.MethodName)) ∈ lw_all := lw_g (lw_at lw_m4 162 rfl) rfl
theorem q936 : (Jvm.Cond.instanceMethod ({ cls := "FencedStandbys$Store", name := "lastCommit", desc := "(II)I" } : Jvm.MethodName)) ∈ lw_all := lw_g (lw_at lw_m4 163 rfl) rfl
theorem q937 : (Jvm.Cond.selects "FencedStandbys$Store" ({ cls := "FencedStandbys$Store", name := "lastCommit", desc := "(II)I" } : Jvm.MethodName) ({ cls := "FencedStandbys$Store", name := "lastCommit", desc := "(II)I" } : Jvm.MethodName)) ∈ lw_all := lw_g (lw_at lw_m4 164 rfl) rfl
theorem q938 : (Jvm.Cond.code ({ cls := "FencedStandbys$Store", name := "lastCommit", desc := "(II)I" } : Jvm.MethodName) prog_8_method_4_code (6 : Nat) (Option.some Jvm.ClassFile.FieldType.int)) ∈ lw_all := lw_g (lw_at lw_m4 165 rfl) rfl
theorem q939 : (Jvm.Cond.methodLink "FencedStandbys$Store" (90 : Nat) ({ cls := "FencedStandbys$Store", name := "putBy", desc := "(III)I" } : Jvm.MethodName)) ∈ lw_all := lw_g (lw_at lw_m4 166 rfl) rfl
theorem q940 : (Jvm.Cond.privateMethod ({ cls := "FencedStandbys$Store", name := "putBy", desc := "(III)I" } : Jvm.MethodName)) ∈ lw_tbl := lw_at lw_m4 167 rfl
theorem q941 : (Jvm.Cond.instanceMethod ({ cls := "FencedStandbys$Store", name := "putBy", desc := "(III)I" } : Jvm.MethodName)) ∈ lw_all := lw_g (lw_at lw_m4 168 rfl) rfl
theorem q942 : (Jvm.Cond.code ({ cls := "FencedStandbys$Store", name := "putBy", desc := "(III)I" } : Jvm.MethodName) prog_8_method_3_code (7 : Nat) (Option.some Jvm.ClassFile.FieldType.int)) ∈ lw_all := lw_g (lw_at lw_m4 169 rfl) rfl
theorem q943 : (Jvm.Cond.methodLink "FencedStandbys$Store" (74 : Nat) ({ cls := "FencedStandbys$Note", name := "isOf", desc := "(II)Z" } : Jvm.MethodName)) ∈ lw_all := lw_g (lw_at lw_m4 170 rfl) rfl
theorem q954 : (Jvm.Cond.instanceMethod ({ cls := "FencedStandbys$Store", name := "seenBy", desc := "(II)I" } : Jvm.MethodName)) ∈ lw_all := lw_g (lw_at lw_m4 181 rfl) rfl
theorem q955 : (Jvm.Cond.selects "FencedStandbys$Store" ({ cls := "FencedStandbys$Store", name := "seenBy", desc := "(II)I" } : Jvm.MethodName) ({ cls := "FencedStandbys$Store", name := "seenBy", desc := "(II)I" } : Jvm.MethodName)) ∈ lw_all := lw_g (lw_at lw_m4 182 rfl) rfl
theorem q956 : (Jvm.Cond.code ({ cls := "FencedStandbys$Store", name := "seenBy", desc := "(II)I" } : Jvm.MethodName) prog_8_method_8_code (4 : Nat) (Option.some Jvm.ClassFile.FieldType.int)) ∈ lw_all := lw_g (lw_at lw_m4 183 rfl) rfl
theorem q957 : (Jvm.Cond.methodLink "FencedStandbys$Store" (98 : Nat) ({ cls := "FencedStandbys$Store", name := "value", desc := "(II)I" } : Jvm.MethodName)) ∈ lw_all := lw_g (lw_at lw_m4 184 rfl) rfl
theorem q1004 : (Jvm.Cond.instanceMethod ({ cls := "FencedStandbys$Store", name := "unlikeKeys", desc := "(I)I" } : Jvm.MethodName)) ∈ lw_all := lw_g (lw_at lw_m4 231 rfl) rfl
theorem q1005 : (Jvm.Cond.selects "FencedStandbys$Store" ({ cls := "FencedStandbys$Store", name := "unlikeKeys", desc := "(I)I" } : Jvm.MethodName) ({ cls := "FencedStandbys$Store", name := "unlikeKeys", desc := "(I)I" } : Jvm.MethodName)) ∈ lw_all := lw_g (lw_at lw_m4 232 rfl) rfl
theorem q1006 : (Jvm.Cond.code ({ cls := "FencedStandbys$Store", name := "unlikeKeys", desc := "(I)I" } : Jvm.MethodName) prog_8_method_6_code (4 : Nat) (Option.some Jvm.ClassFile.FieldType.int)) ∈ lw_all := lw_g (lw_at lw_m4 233 rfl) rfl
theorem q1012 : (Jvm.Cond.instanceMethod ({ cls := "FencedStandbys$Store", name := "puts", desc := "(I)I" } : Jvm.MethodName)) ∈ lw_all := lw_g (lw_at lw_m4 239 rfl) rfl
theorem q1013 : (Jvm.Cond.selects "FencedStandbys$Store" ({ cls := "FencedStandbys$Store", name := "puts", desc := "(I)I" } : Jvm.MethodName) ({ cls := "FencedStandbys$Store", name := "puts", desc := "(I)I" } : Jvm.MethodName)) ∈ lw_all := lw_g (lw_at lw_m5 0 rfl) rfl
theorem q1014 : (Jvm.Cond.code ({ cls := "FencedStandbys$Store", name := "puts", desc := "(I)I" } : Jvm.MethodName) prog_8_method_9_code (4 : Nat) (Option.some Jvm.ClassFile.FieldType.int)) ∈ lw_all := lw_g (lw_at lw_m5 1 rfl) rfl
theorem q1621 : (Jvm.Cond.castable "FencedStandbys$Store" "java/lang/Object") ∈ lw_tbl := lw_at lw_m7 128 rfl
theorem in_X1 : ∀ w ∈ wsX10, w ∈ lw_all := lw_in wsX10 [212, 214, 216, 218, 220, 222, 224, 226, 228, 230] (by decide +kernel) (by decide +kernel)

/-! FencedStandbys$Journal -/
set_option maxRecDepth 100000
def RX2 : String := "FencedStandbys$Journal"
def TX2 : u_T := fun k => match k with
  | _ => ("FencedStandbys$Journal", "rows", "Ljava/util/ArrayList;", true)
def tyX2 : Nat → FieldType := fun k => match k with
  | _ => .object "java/util/ArrayList"
abbrev wsX20 : List Cond := u_ws RX2 TX2 1
theorem nmX2 : ∀ a, a < 1 → ∀ b, b < 1 → a ≠ b → (TX2 a).2.1 ≠ (TX2 b).2.1 := by decide +kernel
theorem tyX2_ok : ∀ k, k < 1 → parseFieldDescriptor (TX2 k).2.2.1 = some (tyX2 k) := by decide +kernel
abbrev cX2_init : ByteArray := prog_3_method_1_code
def yX2_init : MethodName := ⟨RX2, "<init>", "()V"⟩
def dkwX2_init_0 : List UInt8 := [42, 183, 0, 1, 42, 187, 0, 7, 89, 183, 0, 9, 181, 0, 10, 177]
abbrev dktX2_init_0 : List UInt8 := dkwX2_init_0 ++ []
theorem dksX2_init_0 : cX2_init.data.toList.drop 0 = dktX2_init_0 := by decide +kernel
theorem dX2_init_0 : decode cX2_init 0 = .ok (.aload_n 0, 1) := dk_42 (dk_at dksX2_init_0 0 rfl rfl)
theorem dX2_init_1 : decode cX2_init 1 = .ok (.invokespecial 1, 3) := dk_183 0 1 (dk_at dksX2_init_0 1 rfl rfl)
theorem dX2_init_4 : decode cX2_init 4 = .ok (.aload_n 0, 1) := dk_42 (dk_at dksX2_init_0 4 rfl rfl)
theorem dX2_init_5 : decode cX2_init 5 = .ok (.new 7, 3) := dk_187 0 7 (dk_at dksX2_init_0 5 rfl rfl)
theorem dX2_init_8 : decode cX2_init 8 = .ok (.dup, 1) := dk_89 (dk_at dksX2_init_0 8 rfl rfl)
theorem dX2_init_9 : decode cX2_init 9 = .ok (.invokespecial 9, 3) := dk_183 0 9 (dk_at dksX2_init_0 9 rfl rfl)
theorem dX2_init_12 : decode cX2_init 12 = .ok (.putfield 10, 3) := dk_181 0 10 (dk_at dksX2_init_0 12 rfl rfl)
theorem dX2_init_15 : decode cX2_init 15 = .ok (.return_, 1) := dk_177 (dk_at dksX2_init_0 15 rfl rfl)
abbrev cX2_init_2 : ByteArray := prog_3_method_2_code
def yX2_init_2 : MethodName := ⟨RX2, "<init>", "(LFencedStandbys$Journal;)V"⟩
def dkwX2_init_2_2 : List UInt8 := [182, 0, 32, 87, 167, 255, 228, 177]
abbrev dktX2_init_2_2 : List UInt8 := dkwX2_init_2_2 ++ []
def dkwX2_init_2_1 : List UInt8 := [185, 0, 20, 1, 0, 153, 0, 25, 44, 185, 0, 26, 1, 0, 192, 0, 30, 78, 42, 180, 0, 10, 45]
abbrev dktX2_init_2_1 : List UInt8 := dkwX2_init_2_1 ++ dktX2_init_2_2
def dkwX2_init_2_0 : List UInt8 := [42, 183, 0, 1, 42, 187, 0, 7, 89, 183, 0, 9, 181, 0, 10, 43, 180, 0, 10, 182, 0, 16, 77, 44]
abbrev dktX2_init_2_0 : List UInt8 := dkwX2_init_2_0 ++ dktX2_init_2_1
theorem dksX2_init_2_0 : cX2_init_2.data.toList.drop 0 = dktX2_init_2_0 := by decide +kernel
theorem dksX2_init_2_1 : cX2_init_2.data.toList.drop 24 = dktX2_init_2_1 := dk_seg dksX2_init_2_0 24 rfl rfl
theorem dksX2_init_2_2 : cX2_init_2.data.toList.drop 47 = dktX2_init_2_2 := dk_seg dksX2_init_2_1 23 rfl rfl
theorem dX2_init_2_0 : decode cX2_init_2 0 = .ok (.aload_n 0, 1) := dk_42 (dk_at dksX2_init_2_0 0 rfl rfl)
theorem dX2_init_2_1 : decode cX2_init_2 1 = .ok (.invokespecial 1, 3) := dk_183 0 1 (dk_at dksX2_init_2_0 1 rfl rfl)
theorem dX2_init_2_4 : decode cX2_init_2 4 = .ok (.aload_n 0, 1) := dk_42 (dk_at dksX2_init_2_0 4 rfl rfl)
theorem dX2_init_2_5 : decode cX2_init_2 5 = .ok (.new 7, 3) := dk_187 0 7 (dk_at dksX2_init_2_0 5 rfl rfl)
theorem dX2_init_2_8 : decode cX2_init_2 8 = .ok (.dup, 1) := dk_89 (dk_at dksX2_init_2_0 8 rfl rfl)
theorem dX2_init_2_9 : decode cX2_init_2 9 = .ok (.invokespecial 9, 3) := dk_183 0 9 (dk_at dksX2_init_2_0 9 rfl rfl)
theorem dX2_init_2_12 : decode cX2_init_2 12 = .ok (.putfield 10, 3) := dk_181 0 10 (dk_at dksX2_init_2_0 12 rfl rfl)
theorem dX2_init_2_15 : decode cX2_init_2 15 = .ok (.aload_n 1, 1) := dk_43 (dk_at dksX2_init_2_0 15 rfl rfl)
theorem dX2_init_2_16 : decode cX2_init_2 16 = .ok (.getfield 10, 3) := dk_180 0 10 (dk_at dksX2_init_2_0 16 rfl rfl)
theorem dX2_init_2_19 : decode cX2_init_2 19 = .ok (.invokevirtual 16, 3) := dk_182 0 16 (dk_at dksX2_init_2_0 19 rfl rfl)
theorem dX2_init_2_22 : decode cX2_init_2 22 = .ok (.astore_n 2, 1) := dk_77 (dk_at dksX2_init_2_0 22 rfl rfl)
theorem dX2_init_2_23 : decode cX2_init_2 23 = .ok (.aload_n 2, 1) := dk_44 (dk_at dksX2_init_2_0 23 rfl rfl)
theorem dX2_init_2_24 : decode cX2_init_2 24 = .ok (.invokeinterface 20 1, 5) := by decide +kernel
theorem dX2_init_2_29 : decode cX2_init_2 29 = .ok (.ifCond .eq 25, 3) := dk_153 0 25 (dk_at dksX2_init_2_1 5 rfl rfl)
theorem dX2_init_2_32 : decode cX2_init_2 32 = .ok (.aload_n 2, 1) := dk_44 (dk_at dksX2_init_2_1 8 rfl rfl)
theorem dX2_init_2_33 : decode cX2_init_2 33 = .ok (.invokeinterface 26 1, 5) := by decide +kernel
theorem dX2_init_2_38 : decode cX2_init_2 38 = .ok (.checkcast 30, 3) := dk_192 0 30 (dk_at dksX2_init_2_1 14 rfl rfl)
theorem dX2_init_2_41 : decode cX2_init_2 41 = .ok (.astore_n 3, 1) := dk_78 (dk_at dksX2_init_2_1 17 rfl rfl)
theorem dX2_init_2_42 : decode cX2_init_2 42 = .ok (.aload_n 0, 1) := dk_42 (dk_at dksX2_init_2_1 18 rfl rfl)
theorem dX2_init_2_43 : decode cX2_init_2 43 = .ok (.getfield 10, 3) := dk_180 0 10 (dk_at dksX2_init_2_1 19 rfl rfl)
theorem dX2_init_2_46 : decode cX2_init_2 46 = .ok (.aload_n 3, 1) := dk_45 (dk_at dksX2_init_2_1 22 rfl rfl)
theorem dX2_init_2_47 : decode cX2_init_2 47 = .ok (.invokevirtual 32, 3) := dk_182 0 32 (dk_at dksX2_init_2_2 0 rfl rfl)
theorem dX2_init_2_50 : decode cX2_init_2 50 = .ok (.pop, 1) := dk_87 (dk_at dksX2_init_2_2 3 rfl rfl)
theorem dX2_init_2_51 : decode cX2_init_2 51 = .ok (.goto (-28), 3) := dk_167 255 228 (dk_at dksX2_init_2_2 4 rfl rfl)
theorem dX2_init_2_54 : decode cX2_init_2 54 = .ok (.return_, 1) := dk_177 (dk_at dksX2_init_2_2 7 rfl rfl)
abbrev cX2_size : ByteArray := prog_3_method_3_code
def yX2_size : MethodName := ⟨RX2, "size", "()I"⟩
def dkwX2_size_0 : List UInt8 := [42, 180, 0, 10, 182, 0, 36, 172]
abbrev dktX2_size_0 : List UInt8 := dkwX2_size_0 ++ []
theorem dksX2_size_0 : cX2_size.data.toList.drop 0 = dktX2_size_0 := by decide +kernel
theorem dX2_size_0 : decode cX2_size 0 = .ok (.aload_n 0, 1) := dk_42 (dk_at dksX2_size_0 0 rfl rfl)
theorem dX2_size_1 : decode cX2_size 1 = .ok (.getfield 10, 3) := dk_180 0 10 (dk_at dksX2_size_0 1 rfl rfl)
theorem dX2_size_4 : decode cX2_size 4 = .ok (.invokevirtual 36, 3) := dk_182 0 36 (dk_at dksX2_size_0 4 rfl rfl)
theorem dX2_size_7 : decode cX2_size 7 = .ok (.ireturn, 1) := dk_172 (dk_at dksX2_size_0 7 rfl rfl)
abbrev cX2_add : ByteArray := prog_3_method_5_code
def yX2_add : MethodName := ⟨RX2, "add", "(LFencedStandbys$Written;)I"⟩
def dkwX2_add_0 : List UInt8 := [42, 180, 0, 10, 43, 182, 0, 32, 87, 42, 180, 0, 10, 182, 0, 36, 172]
abbrev dktX2_add_0 : List UInt8 := dkwX2_add_0 ++ []
theorem dksX2_add_0 : cX2_add.data.toList.drop 0 = dktX2_add_0 := by decide +kernel
theorem dX2_add_0 : decode cX2_add 0 = .ok (.aload_n 0, 1) := dk_42 (dk_at dksX2_add_0 0 rfl rfl)
theorem dX2_add_1 : decode cX2_add 1 = .ok (.getfield 10, 3) := dk_180 0 10 (dk_at dksX2_add_0 1 rfl rfl)
theorem dX2_add_4 : decode cX2_add 4 = .ok (.aload_n 1, 1) := dk_43 (dk_at dksX2_add_0 4 rfl rfl)
theorem dX2_add_5 : decode cX2_add 5 = .ok (.invokevirtual 32, 3) := dk_182 0 32 (dk_at dksX2_add_0 5 rfl rfl)
theorem dX2_add_8 : decode cX2_add 8 = .ok (.pop, 1) := dk_87 (dk_at dksX2_add_0 8 rfl rfl)
theorem dX2_add_9 : decode cX2_add 9 = .ok (.aload_n 0, 1) := dk_42 (dk_at dksX2_add_0 9 rfl rfl)
theorem dX2_add_10 : decode cX2_add 10 = .ok (.getfield 10, 3) := dk_180 0 10 (dk_at dksX2_add_0 10 rfl rfl)
theorem dX2_add_13 : decode cX2_add 13 = .ok (.invokevirtual 36, 3) := dk_182 0 36 (dk_at dksX2_add_0 13 rfl rfl)
theorem dX2_add_16 : decode cX2_add 16 = .ok (.ireturn, 1) := dk_172 (dk_at dksX2_add_0 16 rfl rfl)
abbrev cX2_at : ByteArray := prog_3_method_4_code
def yX2_at : MethodName := ⟨RX2, "at", "(I)LFencedStandbys$Written;"⟩
def dkwX2_at_0 : List UInt8 := [42, 180, 0, 10, 27, 4, 100, 182, 0, 40, 192, 0, 30, 176]
abbrev dktX2_at_0 : List UInt8 := dkwX2_at_0 ++ []
theorem dksX2_at_0 : cX2_at.data.toList.drop 0 = dktX2_at_0 := by decide +kernel
theorem dX2_at_0 : decode cX2_at 0 = .ok (.aload_n 0, 1) := dk_42 (dk_at dksX2_at_0 0 rfl rfl)
theorem dX2_at_1 : decode cX2_at 1 = .ok (.getfield 10, 3) := dk_180 0 10 (dk_at dksX2_at_0 1 rfl rfl)
theorem dX2_at_4 : decode cX2_at 4 = .ok (.iload_n 1, 1) := dk_27 (dk_at dksX2_at_0 4 rfl rfl)
theorem dX2_at_5 : decode cX2_at 5 = .ok (.iconst 1, 1) := dk_4 (dk_at dksX2_at_0 5 rfl rfl)
theorem dX2_at_6 : decode cX2_at 6 = .ok (.isub, 1) := dk_100 (dk_at dksX2_at_0 6 rfl rfl)
theorem dX2_at_7 : decode cX2_at 7 = .ok (.invokevirtual 40, 3) := dk_182 0 40 (dk_at dksX2_at_0 7 rfl rfl)
theorem dX2_at_10 : decode cX2_at 10 = .ok (.checkcast 30, 3) := dk_192 0 30 (dk_at dksX2_at_0 10 rfl rfl)
theorem dX2_at_13 : decode cX2_at 13 = .ok (.areturn, 1) := dk_176 (dk_at dksX2_at_0 13 rfl rfl)
abbrev cX2_cut : ByteArray := prog_3_method_6_code
def yX2_cut : MethodName := ⟨RX2, "cut", "(I)V"⟩
def dkwX2_cut_1 : List UInt8 := [182, 0, 44, 192, 0, 30, 77, 167, 255, 225, 177]
abbrev dktX2_cut_1 : List UInt8 := dkwX2_cut_1 ++ []
def dkwX2_cut_0 : List UInt8 := [42, 180, 0, 10, 182, 0, 36, 27, 164, 0, 26, 42, 180, 0, 10, 42, 180, 0, 10, 182, 0, 36, 4, 100]
abbrev dktX2_cut_0 : List UInt8 := dkwX2_cut_0 ++ dktX2_cut_1
theorem dksX2_cut_0 : cX2_cut.data.toList.drop 0 = dktX2_cut_0 := by decide +kernel
theorem dksX2_cut_1 : cX2_cut.data.toList.drop 24 = dktX2_cut_1 := dk_seg dksX2_cut_0 24 rfl rfl
theorem dX2_cut_0 : decode cX2_cut 0 = .ok (.aload_n 0, 1) := dk_42 (dk_at dksX2_cut_0 0 rfl rfl)
theorem dX2_cut_1 : decode cX2_cut 1 = .ok (.getfield 10, 3) := dk_180 0 10 (dk_at dksX2_cut_0 1 rfl rfl)
theorem dX2_cut_4 : decode cX2_cut 4 = .ok (.invokevirtual 36, 3) := dk_182 0 36 (dk_at dksX2_cut_0 4 rfl rfl)
theorem dX2_cut_7 : decode cX2_cut 7 = .ok (.iload_n 1, 1) := dk_27 (dk_at dksX2_cut_0 7 rfl rfl)
theorem dX2_cut_8 : decode cX2_cut 8 = .ok (.if_icmp .le 26, 3) := dk_164 0 26 (dk_at dksX2_cut_0 8 rfl rfl)
theorem dX2_cut_11 : decode cX2_cut 11 = .ok (.aload_n 0, 1) := dk_42 (dk_at dksX2_cut_0 11 rfl rfl)
theorem dX2_cut_12 : decode cX2_cut 12 = .ok (.getfield 10, 3) := dk_180 0 10 (dk_at dksX2_cut_0 12 rfl rfl)
theorem dX2_cut_15 : decode cX2_cut 15 = .ok (.aload_n 0, 1) := dk_42 (dk_at dksX2_cut_0 15 rfl rfl)
theorem dX2_cut_16 : decode cX2_cut 16 = .ok (.getfield 10, 3) := dk_180 0 10 (dk_at dksX2_cut_0 16 rfl rfl)
theorem dX2_cut_19 : decode cX2_cut 19 = .ok (.invokevirtual 36, 3) := dk_182 0 36 (dk_at dksX2_cut_0 19 rfl rfl)
theorem dX2_cut_22 : decode cX2_cut 22 = .ok (.iconst 1, 1) := dk_4 (dk_at dksX2_cut_0 22 rfl rfl)
theorem dX2_cut_23 : decode cX2_cut 23 = .ok (.isub, 1) := dk_100 (dk_at dksX2_cut_0 23 rfl rfl)
theorem dX2_cut_24 : decode cX2_cut 24 = .ok (.invokevirtual 44, 3) := dk_182 0 44 (dk_at dksX2_cut_1 0 rfl rfl)
theorem dX2_cut_27 : decode cX2_cut 27 = .ok (.checkcast 30, 3) := dk_192 0 30 (dk_at dksX2_cut_1 3 rfl rfl)
theorem dX2_cut_30 : decode cX2_cut 30 = .ok (.astore_n 2, 1) := dk_77 (dk_at dksX2_cut_1 6 rfl rfl)
theorem dX2_cut_31 : decode cX2_cut 31 = .ok (.goto (-31), 3) := dk_167 255 225 (dk_at dksX2_cut_1 7 rfl rfl)
theorem dX2_cut_34 : decode cX2_cut 34 = .ok (.return_, 1) := dk_177 (dk_at dksX2_cut_1 10 rfl rfl)
theorem q56 : (Jvm.Cond.initialized "FencedStandbys$Journal") ∈ lw_all := lw_g (lw_at lw_m1 3 rfl) rfl
theorem q103 : (Jvm.Cond.instantiable "FencedStandbys$Journal" (1 : Nat)) ∈ lw_all := lw_g (lw_at lw_m1 50 rfl) rfl
theorem q105 : (Jvm.Cond.instanceMethod ({ cls := "FencedStandbys$Journal", name := "<init>", desc := "()V" } : Jvm.MethodName)) ∈ lw_all := lw_g (lw_at lw_m1 52 rfl) rfl
theorem q106 : (Jvm.Cond.code ({ cls := "FencedStandbys$Journal", name := "<init>", desc := "()V" } : Jvm.MethodName) prog_3_method_1_code (1 : Nat) (Option.none : Option Jvm.ClassFile.FieldType)) ∈ lw_all := lw_g (lw_at lw_m1 53 rfl) rfl
theorem q107 : (Jvm.Cond.methodLink "FencedStandbys$Journal" (1 : Nat) ({ cls := "java/lang/Object", name := "<init>", desc := "()V" } : Jvm.MethodName)) ∈ lw_all := lw_g (lw_at lw_m1 54 rfl) rfl
theorem q108 : (Jvm.Cond.classLink "FencedStandbys$Journal" (7 : Nat) "java/util/ArrayList") ∈ lw_all := lw_g (lw_at lw_m1 55 rfl) rfl
theorem q110 : (Jvm.Cond.methodLink "FencedStandbys$Journal" (9 : Nat) ({ cls := "java/util/ArrayList", name := "<init>", desc := "()V" } : Jvm.MethodName)) ∈ lw_all := lw_g (lw_at lw_m1 57 rfl) rfl
theorem q138 : (Jvm.Cond.fieldLink "FencedStandbys$Journal" (10 : Nat) "FencedStandbys$Journal" "rows" "Ljava/util/ArrayList;") ∈ lw_all := lw_g (lw_at lw_m1 85 rfl) rfl
theorem q139 : (Jvm.Cond.laysFinal "FencedStandbys$Journal" "FencedStandbys$Journal" "rows" "Ljava/util/ArrayList;") ∈ lw_all := lw_g (lw_at lw_m1 86 rfl) rfl
theorem q140 : (Jvm.Cond.soleField "FencedStandbys$Journal" "rows") ∈ lw_all := lw_g (lw_at lw_m1 87 rfl) rfl
theorem q141 : (Jvm.Cond.superclass "FencedStandbys$Journal" "java/lang/Object") ∈ lw_all := lw_g (lw_at lw_m1 88 rfl) rfl
theorem q308 : (Jvm.Cond.instanceMethod ({ cls := "FencedStandbys$Journal", name := "<init>", desc := "(LFencedStandbys$Journal;)V" } : Jvm.MethodName)) ∈ lw_all := lw_g (lw_at lw_m2 15 rfl) rfl
theorem q309 : (Jvm.Cond.code ({ cls := "FencedStandbys$Journal", name := "<init>", desc := "(LFencedStandbys$Journal;)V" } : Jvm.MethodName) prog_3_method_2_code (4 : Nat) (Option.none : Option Jvm.ClassFile.FieldType)) ∈ lw_all := lw_g (lw_at lw_m2 16 rfl) rfl
theorem q310 : (Jvm.Cond.methodLink "FencedStandbys$Journal" (16 : Nat) ({ cls := "java/util/ArrayList", name := "iterator", desc := "()Ljava/util/Iterator;" } : Jvm.MethodName)) ∈ lw_all := lw_g (lw_at lw_m2 17 rfl) rfl
theorem q333 : (Jvm.Cond.interfaceEntry "FencedStandbys$Journal" (20 : Nat)) ∈ lw_tbl := lw_at lw_m2 40 rfl
theorem q334 : (Jvm.Cond.methodLink "FencedStandbys$Journal" (20 : Nat) ({ cls := "java/util/Iterator", name := "hasNext", desc := "()Z" } : Jvm.MethodName)) ∈ lw_all := lw_g (lw_at lw_m2 41 rfl) rfl
theorem q343 : (Jvm.Cond.interfaceEntry "FencedStandbys$Journal" (26 : Nat)) ∈ lw_tbl := lw_at lw_m2 50 rfl
theorem q344 : (Jvm.Cond.methodLink "FencedStandbys$Journal" (26 : Nat) ({ cls := "java/util/Iterator", name := "next", desc := "()Ljava/lang/Object;" } : Jvm.MethodName)) ∈ lw_all := lw_g (lw_at lw_m2 51 rfl) rfl
theorem q356 : (Jvm.Cond.classLink "FencedStandbys$Journal" (30 : Nat) "FencedStandbys$Written") ∈ lw_all := lw_g (lw_at lw_m2 63 rfl) rfl
theorem q357 : (Jvm.Cond.methodLink "FencedStandbys$Journal" (32 : Nat) ({ cls := "java/util/ArrayList", name := "add", desc := "(Ljava/lang/Object;)Z" } : Jvm.MethodName)) ∈ lw_all := lw_g (lw_at lw_m2 64 rfl) rfl
theorem q391 : (Jvm.Cond.selects "FencedStandbys$Journal" ({ cls := "java/lang/Object", name := "getClass", desc := "()Ljava/lang/Class;" } : Jvm.MethodName) ({ cls := "java/lang/Object", name := "getClass", desc := "()Ljava/lang/Class;" } : Jvm.MethodName)) ∈ lw_all := lw_g (lw_at lw_m2 98 rfl) rfl
theorem q637 : (Jvm.Cond.instanceMethod ({ cls := "FencedStandbys$Journal", name := "size", desc := "()I" } : Jvm.MethodName)) ∈ lw_all := lw_g (lw_at lw_m3 104 rfl) rfl
theorem q638 : (Jvm.Cond.selects "FencedStandbys$Journal" ({ cls := "FencedStandbys$Journal", name := "size", desc := "()I" } : Jvm.MethodName) ({ cls := "FencedStandbys$Journal", name := "size", desc := "()I" } : Jvm.MethodName)) ∈ lw_all := lw_g (lw_at lw_m3 105 rfl) rfl
theorem q639 : (Jvm.Cond.code ({ cls := "FencedStandbys$Journal", name := "size", desc := "()I" } : Jvm.MethodName) prog_3_method_3_code (1 : Nat) (Option.some Jvm.ClassFile.FieldType.int)) ∈ lw_all := lw_g (lw_at lw_m3 106 rfl) rfl
theorem q640 : (Jvm.Cond.methodLink "FencedStandbys$Journal" (36 : Nat) ({ cls := "java/util/ArrayList", name := "size", desc := "()I" } : Jvm.MethodName)) ∈ lw_all := lw_g (lw_at lw_m3 107 rfl) rfl
theorem q673 : (Jvm.Cond.instanceMethod ({ cls := "FencedStandbys$Journal", name := "add", desc := "(LFencedStandbys$Written;)I" } : Jvm.MethodName)) ∈ lw_all := lw_g (lw_at lw_m3 140 rfl) rfl
theorem q674 : (Jvm.Cond.selects "FencedStandbys$Journal" ({ cls := "FencedStandbys$Journal", name := "add", desc := "(LFencedStandbys$Written;)I" } : Jvm.MethodName) ({ cls := "FencedStandbys$Journal", name := "add", desc := "(LFencedStandbys$Written;)I" } : Jvm.MethodName)) ∈ lw_all := lw_g (lw_at lw_m3 141 rfl) rfl
theorem q675 : (Jvm.Cond.code ({ cls := "FencedStandbys$Journal", name := "add", desc := "(LFencedStandbys$Written;)I" } : Jvm.MethodName) prog_3_method_5_code (2 : Nat) (Option.some Jvm.ClassFile.FieldType.int)) ∈ lw_all := lw_g (lw_at lw_m3 142 rfl) rfl
theorem q732 : (Jvm.Cond.instanceMethod ({ cls := "FencedStandbys$Journal", name := "at", desc := "(I)LFencedStandbys$Written;" } : Jvm.MethodName)) ∈ lw_all := lw_g (lw_at lw_m3 199 rfl) rfl
theorem q733 : (Jvm.Cond.selects "FencedStandbys$Journal" ({ cls := "FencedStandbys$Journal", name := "at", desc := "(I)LFencedStandbys$Written;" } : Jvm.MethodName) ({ cls := "FencedStandbys$Journal", name := "at", desc := "(I)LFencedStandbys$Written;" } : Jvm.MethodName)) ∈ lw_all := lw_g (lw_at lw_m3 200 rfl) rfl
theorem q734 : (Jvm.Cond.code ({ cls := "FencedStandbys$Journal", name := "at", desc := "(I)LFencedStandbys$Written;" } : Jvm.MethodName) prog_3_method_4_code (2 : Nat) (Option.some (Jvm.ClassFile.FieldType.object "FencedStandbys$Written"))) ∈ lw_all := lw_g (lw_at lw_m3 201 rfl) rfl
theorem q735 : (Jvm.Cond.methodLink "FencedStandbys$Journal" (40 : Nat) ({ cls := "java/util/ArrayList", name := "get", desc := "(I)Ljava/lang/Object;" } : Jvm.MethodName)) ∈ lw_all := lw_g (lw_at lw_m3 202 rfl) rfl
theorem q750 : (Jvm.Cond.instanceMethod ({ cls := "FencedStandbys$Journal", name := "cut", desc := "(I)V" } : Jvm.MethodName)) ∈ lw_all := lw_g (lw_at lw_m3 217 rfl) rfl
theorem q751 : (Jvm.Cond.selects "FencedStandbys$Journal" ({ cls := "FencedStandbys$Journal", name := "cut", desc := "(I)V" } : Jvm.MethodName) ({ cls := "FencedStandbys$Journal", name := "cut", desc := "(I)V" } : Jvm.MethodName)) ∈ lw_all := lw_g (lw_at lw_m3 218 rfl) rfl
theorem q752 : (Jvm.Cond.code ({ cls := "FencedStandbys$Journal", name := "cut", desc := "(I)V" } : Jvm.MethodName) prog_3_method_6_code (3 : Nat) (Option.none : Option Jvm.ClassFile.FieldType)) ∈ lw_all := lw_g (lw_at lw_m3 219 rfl) rfl
theorem q753 : (Jvm.Cond.methodLink "FencedStandbys$Journal" (44 : Nat) ({ cls := "java/util/ArrayList", name := "remove", desc := "(I)Ljava/lang/Object;" } : Jvm.MethodName)) ∈ lw_all := lw_g (lw_at lw_m3 220 rfl) rfl
theorem q1622 : (Jvm.Cond.castable "FencedStandbys$Journal" "java/lang/Object") ∈ lw_tbl := lw_at lw_m7 129 rfl
theorem in_X2 : ∀ w ∈ wsX20, w ∈ lw_all := lw_in wsX20 [139] (by decide +kernel) (by decide +kernel)

/-! FencedStandbys$Standby -/
set_option maxRecDepth 100000
def RX3 : String := "FencedStandbys$Standby"
def TX3 : u_T := fun k => match k with
  | 0 => ("FencedStandbys$Standby", "received", "I", false)
  | 1 => ("FencedStandbys$Standby", "applied", "I", false)
  | 2 => ("FencedStandbys$Standby", "gaps", "Ljava/util/BitSet;", false)
  | _ => ("FencedStandbys$Standby", "isAstray", "Z", false)
def tyX3 : Nat → FieldType := fun k => match k with
  | 0 => .int
  | 1 => .int
  | 2 => .object "java/util/BitSet"
  | _ => .boolean
abbrev wsX30 : List Cond := u_ws RX3 TX3 4
theorem nmX3 : ∀ a, a < 4 → ∀ b, b < 4 → a ≠ b → (TX3 a).2.1 ≠ (TX3 b).2.1 := by decide +kernel
theorem tyX3_ok : ∀ k, k < 4 → parseFieldDescriptor (TX3 k).2.2.1 = some (tyX3 k) := by decide +kernel
abbrev cX3_init : ByteArray := prog_7_method_1_code
def yX3_init : MethodName := ⟨RX3, "<init>", "()V"⟩
def dkwX3_init_0 : List UInt8 := [42, 183, 0, 3, 42, 187, 0, 9, 89, 16, 101, 183, 0, 11, 181, 0, 14, 177]
abbrev dktX3_init_0 : List UInt8 := dkwX3_init_0 ++ []
theorem dksX3_init_0 : cX3_init.data.toList.drop 0 = dktX3_init_0 := by decide +kernel
theorem dX3_init_0 : decode cX3_init 0 = .ok (.aload_n 0, 1) := dk_42 (dk_at dksX3_init_0 0 rfl rfl)
theorem dX3_init_1 : decode cX3_init 1 = .ok (.invokespecial 3, 3) := dk_183 0 3 (dk_at dksX3_init_0 1 rfl rfl)
theorem dX3_init_4 : decode cX3_init 4 = .ok (.aload_n 0, 1) := dk_42 (dk_at dksX3_init_0 4 rfl rfl)
theorem dX3_init_5 : decode cX3_init 5 = .ok (.new 9, 3) := dk_187 0 9 (dk_at dksX3_init_0 5 rfl rfl)
theorem dX3_init_8 : decode cX3_init 8 = .ok (.dup, 1) := dk_89 (dk_at dksX3_init_0 8 rfl rfl)
theorem dX3_init_9 : decode cX3_init 9 = .ok (.bipush 101, 2) := dk_16 101 (dk_at dksX3_init_0 9 rfl rfl)
theorem dX3_init_11 : decode cX3_init 11 = .ok (.invokespecial 11, 3) := dk_183 0 11 (dk_at dksX3_init_0 11 rfl rfl)
theorem dX3_init_14 : decode cX3_init 14 = .ok (.putfield 14, 3) := dk_181 0 14 (dk_at dksX3_init_0 14 rfl rfl)
theorem dX3_init_17 : decode cX3_init 17 = .ok (.return_, 1) := dk_177 (dk_at dksX3_init_0 17 rfl rfl)
abbrev cX3_init_2 : ByteArray := prog_7_method_2_code
def yX3_init_2 : MethodName := ⟨RX3, "<init>", "(LFencedStandbys$Standby;)V"⟩
def dkwX3_init_2_2 : List UInt8 := [180, 0, 31, 181, 0, 31, 177]
abbrev dktX3_init_2_2 : List UInt8 := dkwX3_init_2_2 ++ []
def dkwX3_init_2_1 : List UInt8 := [181, 0, 20, 42, 43, 180, 0, 24, 181, 0, 24, 42, 180, 0, 14, 43, 180, 0, 14, 182, 0, 27, 42, 43]
abbrev dktX3_init_2_1 : List UInt8 := dkwX3_init_2_1 ++ dktX3_init_2_2
def dkwX3_init_2_0 : List UInt8 := [42, 183, 0, 3, 42, 187, 0, 9, 89, 16, 101, 183, 0, 11, 181, 0, 14, 42, 43, 180, 0, 20]
abbrev dktX3_init_2_0 : List UInt8 := dkwX3_init_2_0 ++ dktX3_init_2_1
theorem dksX3_init_2_0 : cX3_init_2.data.toList.drop 0 = dktX3_init_2_0 := by decide +kernel
theorem dksX3_init_2_1 : cX3_init_2.data.toList.drop 22 = dktX3_init_2_1 := dk_seg dksX3_init_2_0 22 rfl rfl
theorem dksX3_init_2_2 : cX3_init_2.data.toList.drop 46 = dktX3_init_2_2 := dk_seg dksX3_init_2_1 24 rfl rfl
theorem dX3_init_2_0 : decode cX3_init_2 0 = .ok (.aload_n 0, 1) := dk_42 (dk_at dksX3_init_2_0 0 rfl rfl)
theorem dX3_init_2_1 : decode cX3_init_2 1 = .ok (.invokespecial 3, 3) := dk_183 0 3 (dk_at dksX3_init_2_0 1 rfl rfl)
theorem dX3_init_2_4 : decode cX3_init_2 4 = .ok (.aload_n 0, 1) := dk_42 (dk_at dksX3_init_2_0 4 rfl rfl)
theorem dX3_init_2_5 : decode cX3_init_2 5 = .ok (.new 9, 3) := dk_187 0 9 (dk_at dksX3_init_2_0 5 rfl rfl)
theorem dX3_init_2_8 : decode cX3_init_2 8 = .ok (.dup, 1) := dk_89 (dk_at dksX3_init_2_0 8 rfl rfl)
theorem dX3_init_2_9 : decode cX3_init_2 9 = .ok (.bipush 101, 2) := dk_16 101 (dk_at dksX3_init_2_0 9 rfl rfl)
theorem dX3_init_2_11 : decode cX3_init_2 11 = .ok (.invokespecial 11, 3) := dk_183 0 11 (dk_at dksX3_init_2_0 11 rfl rfl)
theorem dX3_init_2_14 : decode cX3_init_2 14 = .ok (.putfield 14, 3) := dk_181 0 14 (dk_at dksX3_init_2_0 14 rfl rfl)
theorem dX3_init_2_17 : decode cX3_init_2 17 = .ok (.aload_n 0, 1) := dk_42 (dk_at dksX3_init_2_0 17 rfl rfl)
theorem dX3_init_2_18 : decode cX3_init_2 18 = .ok (.aload_n 1, 1) := dk_43 (dk_at dksX3_init_2_0 18 rfl rfl)
theorem dX3_init_2_19 : decode cX3_init_2 19 = .ok (.getfield 20, 3) := dk_180 0 20 (dk_at dksX3_init_2_0 19 rfl rfl)
theorem dX3_init_2_22 : decode cX3_init_2 22 = .ok (.putfield 20, 3) := dk_181 0 20 (dk_at dksX3_init_2_1 0 rfl rfl)
theorem dX3_init_2_25 : decode cX3_init_2 25 = .ok (.aload_n 0, 1) := dk_42 (dk_at dksX3_init_2_1 3 rfl rfl)
theorem dX3_init_2_26 : decode cX3_init_2 26 = .ok (.aload_n 1, 1) := dk_43 (dk_at dksX3_init_2_1 4 rfl rfl)
theorem dX3_init_2_27 : decode cX3_init_2 27 = .ok (.getfield 24, 3) := dk_180 0 24 (dk_at dksX3_init_2_1 5 rfl rfl)
theorem dX3_init_2_30 : decode cX3_init_2 30 = .ok (.putfield 24, 3) := dk_181 0 24 (dk_at dksX3_init_2_1 8 rfl rfl)
theorem dX3_init_2_33 : decode cX3_init_2 33 = .ok (.aload_n 0, 1) := dk_42 (dk_at dksX3_init_2_1 11 rfl rfl)
theorem dX3_init_2_34 : decode cX3_init_2 34 = .ok (.getfield 14, 3) := dk_180 0 14 (dk_at dksX3_init_2_1 12 rfl rfl)
theorem dX3_init_2_37 : decode cX3_init_2 37 = .ok (.aload_n 1, 1) := dk_43 (dk_at dksX3_init_2_1 15 rfl rfl)
theorem dX3_init_2_38 : decode cX3_init_2 38 = .ok (.getfield 14, 3) := dk_180 0 14 (dk_at dksX3_init_2_1 16 rfl rfl)
theorem dX3_init_2_41 : decode cX3_init_2 41 = .ok (.invokevirtual 27, 3) := dk_182 0 27 (dk_at dksX3_init_2_1 19 rfl rfl)
theorem dX3_init_2_44 : decode cX3_init_2 44 = .ok (.aload_n 0, 1) := dk_42 (dk_at dksX3_init_2_1 22 rfl rfl)
theorem dX3_init_2_45 : decode cX3_init_2 45 = .ok (.aload_n 1, 1) := dk_43 (dk_at dksX3_init_2_1 23 rfl rfl)
theorem dX3_init_2_46 : decode cX3_init_2 46 = .ok (.getfield 31, 3) := dk_180 0 31 (dk_at dksX3_init_2_2 0 rfl rfl)
theorem dX3_init_2_49 : decode cX3_init_2 49 = .ok (.putfield 31, 3) := dk_181 0 31 (dk_at dksX3_init_2_2 3 rfl rfl)
theorem dX3_init_2_52 : decode cX3_init_2 52 = .ok (.return_, 1) := dk_177 (dk_at dksX3_init_2_2 6 rfl rfl)
abbrev cX3_isAt : ByteArray := prog_7_method_3_code
def yX3_isAt : MethodName := ⟨RX3, "isAt", "(IZ)V"⟩
def dkwX3_isAt_1 : List UInt8 := [28, 181, 0, 31, 177]
abbrev dktX3_isAt_1 : List UInt8 := dkwX3_isAt_1 ++ []
def dkwX3_isAt_0 : List UInt8 := [42, 27, 181, 0, 20, 42, 27, 181, 0, 24, 42, 187, 0, 9, 89, 16, 101, 183, 0, 11, 181, 0, 14, 42]
abbrev dktX3_isAt_0 : List UInt8 := dkwX3_isAt_0 ++ dktX3_isAt_1
theorem dksX3_isAt_0 : cX3_isAt.data.toList.drop 0 = dktX3_isAt_0 := by decide +kernel
theorem dksX3_isAt_1 : cX3_isAt.data.toList.drop 24 = dktX3_isAt_1 := dk_seg dksX3_isAt_0 24 rfl rfl
theorem dX3_isAt_0 : decode cX3_isAt 0 = .ok (.aload_n 0, 1) := dk_42 (dk_at dksX3_isAt_0 0 rfl rfl)
theorem dX3_isAt_1 : decode cX3_isAt 1 = .ok (.iload_n 1, 1) := dk_27 (dk_at dksX3_isAt_0 1 rfl rfl)
theorem dX3_isAt_2 : decode cX3_isAt 2 = .ok (.putfield 20, 3) := dk_181 0 20 (dk_at dksX3_isAt_0 2 rfl rfl)
theorem dX3_isAt_5 : decode cX3_isAt 5 = .ok (.aload_n 0, 1) := dk_42 (dk_at dksX3_isAt_0 5 rfl rfl)
theorem dX3_isAt_6 : decode cX3_isAt 6 = .ok (.iload_n 1, 1) := dk_27 (dk_at dksX3_isAt_0 6 rfl rfl)
theorem dX3_isAt_7 : decode cX3_isAt 7 = .ok (.putfield 24, 3) := dk_181 0 24 (dk_at dksX3_isAt_0 7 rfl rfl)
theorem dX3_isAt_10 : decode cX3_isAt 10 = .ok (.aload_n 0, 1) := dk_42 (dk_at dksX3_isAt_0 10 rfl rfl)
theorem dX3_isAt_11 : decode cX3_isAt 11 = .ok (.new 9, 3) := dk_187 0 9 (dk_at dksX3_isAt_0 11 rfl rfl)
theorem dX3_isAt_14 : decode cX3_isAt 14 = .ok (.dup, 1) := dk_89 (dk_at dksX3_isAt_0 14 rfl rfl)
theorem dX3_isAt_15 : decode cX3_isAt 15 = .ok (.bipush 101, 2) := dk_16 101 (dk_at dksX3_isAt_0 15 rfl rfl)
theorem dX3_isAt_17 : decode cX3_isAt 17 = .ok (.invokespecial 11, 3) := dk_183 0 11 (dk_at dksX3_isAt_0 17 rfl rfl)
theorem dX3_isAt_20 : decode cX3_isAt 20 = .ok (.putfield 14, 3) := dk_181 0 14 (dk_at dksX3_isAt_0 20 rfl rfl)
theorem dX3_isAt_23 : decode cX3_isAt 23 = .ok (.aload_n 0, 1) := dk_42 (dk_at dksX3_isAt_0 23 rfl rfl)
theorem dX3_isAt_24 : decode cX3_isAt 24 = .ok (.iload_n 2, 1) := dk_28 (dk_at dksX3_isAt_1 0 rfl rfl)
theorem dX3_isAt_25 : decode cX3_isAt 25 = .ok (.putfield 31, 3) := dk_181 0 31 (dk_at dksX3_isAt_1 1 rfl rfl)
theorem dX3_isAt_28 : decode cX3_isAt 28 = .ok (.return_, 1) := dk_177 (dk_at dksX3_isAt_1 4 rfl rfl)
abbrev cX3_cut : ByteArray := prog_7_method_4_code
def yX3_cut : MethodName := ⟨RX3, "cut", "(I)V"⟩
def dkwX3_cut_2 : List UInt8 := [180, 0, 14, 27, 4, 96, 16, 101, 182, 0, 41, 177]
abbrev dktX3_cut_2 : List UInt8 := dkwX3_cut_2 ++ []
def dkwX3_cut_1 : List UInt8 := [180, 0, 20, 27, 184, 0, 35, 181, 0, 20, 42, 42, 180, 0, 24, 27, 184, 0, 35, 181, 0, 24, 42]
abbrev dktX3_cut_1 : List UInt8 := dkwX3_cut_1 ++ dktX3_cut_2
def dkwX3_cut_0 : List UInt8 := [42, 89, 180, 0, 31, 42, 180, 0, 24, 27, 164, 0, 7, 4, 167, 0, 4, 3, 128, 181, 0, 31, 42, 42]
abbrev dktX3_cut_0 : List UInt8 := dkwX3_cut_0 ++ dktX3_cut_1
theorem dksX3_cut_0 : cX3_cut.data.toList.drop 0 = dktX3_cut_0 := by decide +kernel
theorem dksX3_cut_1 : cX3_cut.data.toList.drop 24 = dktX3_cut_1 := dk_seg dksX3_cut_0 24 rfl rfl
theorem dksX3_cut_2 : cX3_cut.data.toList.drop 47 = dktX3_cut_2 := dk_seg dksX3_cut_1 23 rfl rfl
theorem dX3_cut_0 : decode cX3_cut 0 = .ok (.aload_n 0, 1) := dk_42 (dk_at dksX3_cut_0 0 rfl rfl)
theorem dX3_cut_1 : decode cX3_cut 1 = .ok (.dup, 1) := dk_89 (dk_at dksX3_cut_0 1 rfl rfl)
theorem dX3_cut_2 : decode cX3_cut 2 = .ok (.getfield 31, 3) := dk_180 0 31 (dk_at dksX3_cut_0 2 rfl rfl)
theorem dX3_cut_5 : decode cX3_cut 5 = .ok (.aload_n 0, 1) := dk_42 (dk_at dksX3_cut_0 5 rfl rfl)
theorem dX3_cut_6 : decode cX3_cut 6 = .ok (.getfield 24, 3) := dk_180 0 24 (dk_at dksX3_cut_0 6 rfl rfl)
theorem dX3_cut_9 : decode cX3_cut 9 = .ok (.iload_n 1, 1) := dk_27 (dk_at dksX3_cut_0 9 rfl rfl)
theorem dX3_cut_10 : decode cX3_cut 10 = .ok (.if_icmp .le 7, 3) := dk_164 0 7 (dk_at dksX3_cut_0 10 rfl rfl)
theorem dX3_cut_13 : decode cX3_cut 13 = .ok (.iconst 1, 1) := dk_4 (dk_at dksX3_cut_0 13 rfl rfl)
theorem dX3_cut_14 : decode cX3_cut 14 = .ok (.goto 4, 3) := dk_167 0 4 (dk_at dksX3_cut_0 14 rfl rfl)
theorem dX3_cut_17 : decode cX3_cut 17 = .ok (.iconst 0, 1) := dk_3 (dk_at dksX3_cut_0 17 rfl rfl)
theorem dX3_cut_18 : decode cX3_cut 18 = .ok (.ior, 1) := dk_128 (dk_at dksX3_cut_0 18 rfl rfl)
theorem dX3_cut_19 : decode cX3_cut 19 = .ok (.putfield 31, 3) := dk_181 0 31 (dk_at dksX3_cut_0 19 rfl rfl)
theorem dX3_cut_22 : decode cX3_cut 22 = .ok (.aload_n 0, 1) := dk_42 (dk_at dksX3_cut_0 22 rfl rfl)
theorem dX3_cut_23 : decode cX3_cut 23 = .ok (.aload_n 0, 1) := dk_42 (dk_at dksX3_cut_0 23 rfl rfl)
theorem dX3_cut_24 : decode cX3_cut 24 = .ok (.getfield 20, 3) := dk_180 0 20 (dk_at dksX3_cut_1 0 rfl rfl)
theorem dX3_cut_27 : decode cX3_cut 27 = .ok (.iload_n 1, 1) := dk_27 (dk_at dksX3_cut_1 3 rfl rfl)
theorem dX3_cut_28 : decode cX3_cut 28 = .ok (.invokestatic 35, 3) := dk_184 0 35 (dk_at dksX3_cut_1 4 rfl rfl)
theorem dX3_cut_31 : decode cX3_cut 31 = .ok (.putfield 20, 3) := dk_181 0 20 (dk_at dksX3_cut_1 7 rfl rfl)
theorem dX3_cut_34 : decode cX3_cut 34 = .ok (.aload_n 0, 1) := dk_42 (dk_at dksX3_cut_1 10 rfl rfl)
theorem dX3_cut_35 : decode cX3_cut 35 = .ok (.aload_n 0, 1) := dk_42 (dk_at dksX3_cut_1 11 rfl rfl)
theorem dX3_cut_36 : decode cX3_cut 36 = .ok (.getfield 24, 3) := dk_180 0 24 (dk_at dksX3_cut_1 12 rfl rfl)
theorem dX3_cut_39 : decode cX3_cut 39 = .ok (.iload_n 1, 1) := dk_27 (dk_at dksX3_cut_1 15 rfl rfl)
theorem dX3_cut_40 : decode cX3_cut 40 = .ok (.invokestatic 35, 3) := dk_184 0 35 (dk_at dksX3_cut_1 16 rfl rfl)
theorem dX3_cut_43 : decode cX3_cut 43 = .ok (.putfield 24, 3) := dk_181 0 24 (dk_at dksX3_cut_1 19 rfl rfl)
theorem dX3_cut_46 : decode cX3_cut 46 = .ok (.aload_n 0, 1) := dk_42 (dk_at dksX3_cut_1 22 rfl rfl)
theorem dX3_cut_47 : decode cX3_cut 47 = .ok (.getfield 14, 3) := dk_180 0 14 (dk_at dksX3_cut_2 0 rfl rfl)
theorem dX3_cut_50 : decode cX3_cut 50 = .ok (.iload_n 1, 1) := dk_27 (dk_at dksX3_cut_2 3 rfl rfl)
theorem dX3_cut_51 : decode cX3_cut 51 = .ok (.iconst 1, 1) := dk_4 (dk_at dksX3_cut_2 4 rfl rfl)
theorem dX3_cut_52 : decode cX3_cut 52 = .ok (.iadd, 1) := dk_96 (dk_at dksX3_cut_2 5 rfl rfl)
theorem dX3_cut_53 : decode cX3_cut 53 = .ok (.bipush 101, 2) := dk_16 101 (dk_at dksX3_cut_2 6 rfl rfl)
theorem dX3_cut_55 : decode cX3_cut 55 = .ok (.invokevirtual 41, 3) := dk_182 0 41 (dk_at dksX3_cut_2 8 rfl rfl)
theorem dX3_cut_58 : decode cX3_cut 58 = .ok (.return_, 1) := dk_177 (dk_at dksX3_cut_2 11 rfl rfl)
abbrev cX3_hasNext : ByteArray := prog_7_method_5_code
def yX3_hasNext : MethodName := ⟨RX3, "hasNext", "()Z"⟩
def dkwX3_hasNext_1 : List UInt8 := [154, 0, 7, 4, 167, 0, 4, 3, 172]
abbrev dktX3_hasNext_1 : List UInt8 := dkwX3_hasNext_1 ++ []
def dkwX3_hasNext_0 : List UInt8 := [42, 180, 0, 24, 42, 180, 0, 20, 162, 0, 23, 42, 180, 0, 14, 42, 180, 0, 24, 4, 96, 182, 0, 45]
abbrev dktX3_hasNext_0 : List UInt8 := dkwX3_hasNext_0 ++ dktX3_hasNext_1
theorem dksX3_hasNext_0 : cX3_hasNext.data.toList.drop 0 = dktX3_hasNext_0 := by decide +kernel
theorem dksX3_hasNext_1 : cX3_hasNext.data.toList.drop 24 = dktX3_hasNext_1 := dk_seg dksX3_hasNext_0 24 rfl rfl
theorem dX3_hasNext_0 : decode cX3_hasNext 0 = .ok (.aload_n 0, 1) := dk_42 (dk_at dksX3_hasNext_0 0 rfl rfl)
theorem dX3_hasNext_1 : decode cX3_hasNext 1 = .ok (.getfield 24, 3) := dk_180 0 24 (dk_at dksX3_hasNext_0 1 rfl rfl)
theorem dX3_hasNext_4 : decode cX3_hasNext 4 = .ok (.aload_n 0, 1) := dk_42 (dk_at dksX3_hasNext_0 4 rfl rfl)
theorem dX3_hasNext_5 : decode cX3_hasNext 5 = .ok (.getfield 20, 3) := dk_180 0 20 (dk_at dksX3_hasNext_0 5 rfl rfl)
theorem dX3_hasNext_8 : decode cX3_hasNext 8 = .ok (.if_icmp .ge 23, 3) := dk_162 0 23 (dk_at dksX3_hasNext_0 8 rfl rfl)
theorem dX3_hasNext_11 : decode cX3_hasNext 11 = .ok (.aload_n 0, 1) := dk_42 (dk_at dksX3_hasNext_0 11 rfl rfl)
theorem dX3_hasNext_12 : decode cX3_hasNext 12 = .ok (.getfield 14, 3) := dk_180 0 14 (dk_at dksX3_hasNext_0 12 rfl rfl)
theorem dX3_hasNext_15 : decode cX3_hasNext 15 = .ok (.aload_n 0, 1) := dk_42 (dk_at dksX3_hasNext_0 15 rfl rfl)
theorem dX3_hasNext_16 : decode cX3_hasNext 16 = .ok (.getfield 24, 3) := dk_180 0 24 (dk_at dksX3_hasNext_0 16 rfl rfl)
theorem dX3_hasNext_19 : decode cX3_hasNext 19 = .ok (.iconst 1, 1) := dk_4 (dk_at dksX3_hasNext_0 19 rfl rfl)
theorem dX3_hasNext_20 : decode cX3_hasNext 20 = .ok (.iadd, 1) := dk_96 (dk_at dksX3_hasNext_0 20 rfl rfl)
theorem dX3_hasNext_21 : decode cX3_hasNext 21 = .ok (.invokevirtual 45, 3) := dk_182 0 45 (dk_at dksX3_hasNext_0 21 rfl rfl)
theorem dX3_hasNext_24 : decode cX3_hasNext 24 = .ok (.ifCond .ne 7, 3) := dk_154 0 7 (dk_at dksX3_hasNext_1 0 rfl rfl)
theorem dX3_hasNext_27 : decode cX3_hasNext 27 = .ok (.iconst 1, 1) := dk_4 (dk_at dksX3_hasNext_1 3 rfl rfl)
theorem dX3_hasNext_28 : decode cX3_hasNext 28 = .ok (.goto 4, 3) := dk_167 0 4 (dk_at dksX3_hasNext_1 4 rfl rfl)
theorem dX3_hasNext_31 : decode cX3_hasNext 31 = .ok (.iconst 0, 1) := dk_3 (dk_at dksX3_hasNext_1 7 rfl rfl)
theorem dX3_hasNext_32 : decode cX3_hasNext 32 = .ok (.ireturn, 1) := dk_172 (dk_at dksX3_hasNext_1 8 rfl rfl)
abbrev cX3_canServe : ByteArray := prog_7_method_7_code
def yX3_canServe : MethodName := ⟨RX3, "canServe", "(I)Z"⟩
def dkwX3_canServe_0 : List UInt8 := [42, 180, 0, 31, 154, 0, 15, 42, 180, 0, 24, 27, 161, 0, 7, 4, 167, 0, 4, 3, 172]
abbrev dktX3_canServe_0 : List UInt8 := dkwX3_canServe_0 ++ []
theorem dksX3_canServe_0 : cX3_canServe.data.toList.drop 0 = dktX3_canServe_0 := by decide +kernel
theorem dX3_canServe_0 : decode cX3_canServe 0 = .ok (.aload_n 0, 1) := dk_42 (dk_at dksX3_canServe_0 0 rfl rfl)
theorem dX3_canServe_1 : decode cX3_canServe 1 = .ok (.getfield 31, 3) := dk_180 0 31 (dk_at dksX3_canServe_0 1 rfl rfl)
theorem dX3_canServe_4 : decode cX3_canServe 4 = .ok (.ifCond .ne 15, 3) := dk_154 0 15 (dk_at dksX3_canServe_0 4 rfl rfl)
theorem dX3_canServe_7 : decode cX3_canServe 7 = .ok (.aload_n 0, 1) := dk_42 (dk_at dksX3_canServe_0 7 rfl rfl)
theorem dX3_canServe_8 : decode cX3_canServe 8 = .ok (.getfield 24, 3) := dk_180 0 24 (dk_at dksX3_canServe_0 8 rfl rfl)
theorem dX3_canServe_11 : decode cX3_canServe 11 = .ok (.iload_n 1, 1) := dk_27 (dk_at dksX3_canServe_0 11 rfl rfl)
theorem dX3_canServe_12 : decode cX3_canServe 12 = .ok (.if_icmp .lt 7, 3) := dk_161 0 7 (dk_at dksX3_canServe_0 12 rfl rfl)
theorem dX3_canServe_15 : decode cX3_canServe 15 = .ok (.iconst 1, 1) := dk_4 (dk_at dksX3_canServe_0 15 rfl rfl)
theorem dX3_canServe_16 : decode cX3_canServe 16 = .ok (.goto 4, 3) := dk_167 0 4 (dk_at dksX3_canServe_0 16 rfl rfl)
theorem dX3_canServe_19 : decode cX3_canServe 19 = .ok (.iconst 0, 1) := dk_3 (dk_at dksX3_canServe_0 19 rfl rfl)
theorem dX3_canServe_20 : decode cX3_canServe 20 = .ok (.ireturn, 1) := dk_172 (dk_at dksX3_canServe_0 20 rfl rfl)
abbrev cX3_end : ByteArray := prog_7_method_6_code
def yX3_end : MethodName := ⟨RX3, "end", "()I"⟩
def dkwX3_end_0 : List UInt8 := [42, 180, 0, 14, 3, 182, 0, 49, 60, 27, 156, 0, 10, 42, 180, 0, 20, 167, 0, 6, 27, 4, 100, 172]
abbrev dktX3_end_0 : List UInt8 := dkwX3_end_0 ++ []
theorem dksX3_end_0 : cX3_end.data.toList.drop 0 = dktX3_end_0 := by decide +kernel
theorem dX3_end_0 : decode cX3_end 0 = .ok (.aload_n 0, 1) := dk_42 (dk_at dksX3_end_0 0 rfl rfl)
theorem dX3_end_1 : decode cX3_end 1 = .ok (.getfield 14, 3) := dk_180 0 14 (dk_at dksX3_end_0 1 rfl rfl)
theorem dX3_end_4 : decode cX3_end 4 = .ok (.iconst 0, 1) := dk_3 (dk_at dksX3_end_0 4 rfl rfl)
theorem dX3_end_5 : decode cX3_end 5 = .ok (.invokevirtual 49, 3) := dk_182 0 49 (dk_at dksX3_end_0 5 rfl rfl)
theorem dX3_end_8 : decode cX3_end 8 = .ok (.istore_n 1, 1) := dk_60 (dk_at dksX3_end_0 8 rfl rfl)
theorem dX3_end_9 : decode cX3_end 9 = .ok (.iload_n 1, 1) := dk_27 (dk_at dksX3_end_0 9 rfl rfl)
theorem dX3_end_10 : decode cX3_end 10 = .ok (.ifCond .ge 10, 3) := dk_156 0 10 (dk_at dksX3_end_0 10 rfl rfl)
theorem dX3_end_13 : decode cX3_end 13 = .ok (.aload_n 0, 1) := dk_42 (dk_at dksX3_end_0 13 rfl rfl)
theorem dX3_end_14 : decode cX3_end 14 = .ok (.getfield 20, 3) := dk_180 0 20 (dk_at dksX3_end_0 14 rfl rfl)
theorem dX3_end_17 : decode cX3_end 17 = .ok (.goto 6, 3) := dk_167 0 6 (dk_at dksX3_end_0 17 rfl rfl)
theorem dX3_end_20 : decode cX3_end 20 = .ok (.iload_n 1, 1) := dk_27 (dk_at dksX3_end_0 20 rfl rfl)
theorem dX3_end_21 : decode cX3_end 21 = .ok (.iconst 1, 1) := dk_4 (dk_at dksX3_end_0 21 rfl rfl)
theorem dX3_end_22 : decode cX3_end 22 = .ok (.isub, 1) := dk_100 (dk_at dksX3_end_0 22 rfl rfl)
theorem dX3_end_23 : decode cX3_end 23 = .ok (.ireturn, 1) := dk_172 (dk_at dksX3_end_0 23 rfl rfl)
theorem q60 : (Jvm.Cond.initialized "FencedStandbys$Standby") ∈ lw_all := lw_g (lw_at lw_m1 7 rfl) rfl
theorem q142 : (Jvm.Cond.instantiable "FencedStandbys$Standby" (4 : Nat)) ∈ lw_all := lw_g (lw_at lw_m1 89 rfl) rfl
theorem q144 : (Jvm.Cond.instanceMethod ({ cls := "FencedStandbys$Standby", name := "<init>", desc := "()V" } : Jvm.MethodName)) ∈ lw_all := lw_g (lw_at lw_m1 91 rfl) rfl
theorem q145 : (Jvm.Cond.code ({ cls := "FencedStandbys$Standby", name := "<init>", desc := "()V" } : Jvm.MethodName) prog_7_method_1_code (1 : Nat) (Option.none : Option Jvm.ClassFile.FieldType)) ∈ lw_all := lw_g (lw_at lw_m1 92 rfl) rfl
theorem q146 : (Jvm.Cond.methodLink "FencedStandbys$Standby" (3 : Nat) ({ cls := "java/lang/Object", name := "<init>", desc := "()V" } : Jvm.MethodName)) ∈ lw_all := lw_g (lw_at lw_m1 93 rfl) rfl
theorem q147 : (Jvm.Cond.classLink "FencedStandbys$Standby" (9 : Nat) "java/util/BitSet") ∈ lw_all := lw_g (lw_at lw_m1 94 rfl) rfl
theorem q149 : (Jvm.Cond.methodLink "FencedStandbys$Standby" (11 : Nat) ({ cls := "java/util/BitSet", name := "<init>", desc := "(I)V" } : Jvm.MethodName)) ∈ lw_all := lw_g (lw_at lw_m1 96 rfl) rfl
theorem q171 : (Jvm.Cond.fieldLink "FencedStandbys$Standby" (20 : Nat) "FencedStandbys$Standby" "received" "I") ∈ lw_all := lw_g (lw_at lw_m1 118 rfl) rfl
theorem q174 : (Jvm.Cond.fieldLink "FencedStandbys$Standby" (24 : Nat) "FencedStandbys$Standby" "applied" "I") ∈ lw_all := lw_g (lw_at lw_m1 121 rfl) rfl
theorem q177 : (Jvm.Cond.fieldLink "FencedStandbys$Standby" (14 : Nat) "FencedStandbys$Standby" "gaps" "Ljava/util/BitSet;") ∈ lw_all := lw_g (lw_at lw_m1 124 rfl) rfl
theorem q180 : (Jvm.Cond.fieldLink "FencedStandbys$Standby" (31 : Nat) "FencedStandbys$Standby" "isAstray" "Z") ∈ lw_all := lw_g (lw_at lw_m1 127 rfl) rfl
theorem q183 : (Jvm.Cond.lays "FencedStandbys$Standby" "FencedStandbys$Standby" "received" "I") ∈ lw_all := lw_g (lw_at lw_m1 130 rfl) rfl
theorem q184 : (Jvm.Cond.soleField "FencedStandbys$Standby" "received") ∈ lw_all := lw_g (lw_at lw_m1 131 rfl) rfl
theorem q185 : (Jvm.Cond.lays "FencedStandbys$Standby" "FencedStandbys$Standby" "applied" "I") ∈ lw_all := lw_g (lw_at lw_m1 132 rfl) rfl
theorem q186 : (Jvm.Cond.soleField "FencedStandbys$Standby" "applied") ∈ lw_all := lw_g (lw_at lw_m1 133 rfl) rfl
theorem q187 : (Jvm.Cond.lays "FencedStandbys$Standby" "FencedStandbys$Standby" "gaps" "Ljava/util/BitSet;") ∈ lw_all := lw_g (lw_at lw_m1 134 rfl) rfl
theorem q188 : (Jvm.Cond.soleField "FencedStandbys$Standby" "gaps") ∈ lw_all := lw_g (lw_at lw_m1 135 rfl) rfl
theorem q189 : (Jvm.Cond.lays "FencedStandbys$Standby" "FencedStandbys$Standby" "isAstray" "Z") ∈ lw_all := lw_g (lw_at lw_m1 136 rfl) rfl
theorem q190 : (Jvm.Cond.soleField "FencedStandbys$Standby" "isAstray") ∈ lw_all := lw_g (lw_at lw_m1 137 rfl) rfl
theorem q191 : (Jvm.Cond.superclass "FencedStandbys$Standby" "java/lang/Object") ∈ lw_all := lw_g (lw_at lw_m1 138 rfl) rfl
theorem q395 : (Jvm.Cond.selects "FencedStandbys$Standby" ({ cls := "java/lang/Object", name := "getClass", desc := "()Ljava/lang/Class;" } : Jvm.MethodName) ({ cls := "java/lang/Object", name := "getClass", desc := "()Ljava/lang/Class;" } : Jvm.MethodName)) ∈ lw_all := lw_g (lw_at lw_m2 102 rfl) rfl
theorem q419 : (Jvm.Cond.instanceMethod ({ cls := "FencedStandbys$Standby", name := "<init>", desc := "(LFencedStandbys$Standby;)V" } : Jvm.MethodName)) ∈ lw_all := lw_g (lw_at lw_m2 126 rfl) rfl
theorem q420 : (Jvm.Cond.code ({ cls := "FencedStandbys$Standby", name := "<init>", desc := "(LFencedStandbys$Standby;)V" } : Jvm.MethodName) prog_7_method_2_code (2 : Nat) (Option.none : Option Jvm.ClassFile.FieldType)) ∈ lw_all := lw_g (lw_at lw_m2 127 rfl) rfl
theorem q421 : (Jvm.Cond.methodLink "FencedStandbys$Standby" (27 : Nat) ({ cls := "java/util/BitSet", name := "or", desc := "(Ljava/util/BitSet;)V" } : Jvm.MethodName)) ∈ lw_all := lw_g (lw_at lw_m2 128 rfl) rfl
theorem q763 : (Jvm.Cond.instanceMethod ({ cls := "FencedStandbys$Standby", name := "isAt", desc := "(IZ)V" } : Jvm.MethodName)) ∈ lw_all := lw_g (lw_at lw_m3 230 rfl) rfl
theorem q764 : (Jvm.Cond.selects "FencedStandbys$Standby" ({ cls := "FencedStandbys$Standby", name := "isAt", desc := "(IZ)V" } : Jvm.MethodName) ({ cls := "FencedStandbys$Standby", name := "isAt", desc := "(IZ)V" } : Jvm.MethodName)) ∈ lw_all := lw_g (lw_at lw_m3 231 rfl) rfl
theorem q765 : (Jvm.Cond.code ({ cls := "FencedStandbys$Standby", name := "isAt", desc := "(IZ)V" } : Jvm.MethodName) prog_7_method_3_code (3 : Nat) (Option.none : Option Jvm.ClassFile.FieldType)) ∈ lw_all := lw_g (lw_at lw_m3 232 rfl) rfl
theorem q767 : (Jvm.Cond.instanceMethod ({ cls := "FencedStandbys$Standby", name := "cut", desc := "(I)V" } : Jvm.MethodName)) ∈ lw_all := lw_g (lw_at lw_m3 234 rfl) rfl
theorem q768 : (Jvm.Cond.selects "FencedStandbys$Standby" ({ cls := "FencedStandbys$Standby", name := "cut", desc := "(I)V" } : Jvm.MethodName) ({ cls := "FencedStandbys$Standby", name := "cut", desc := "(I)V" } : Jvm.MethodName)) ∈ lw_all := lw_g (lw_at lw_m3 235 rfl) rfl
theorem q769 : (Jvm.Cond.code ({ cls := "FencedStandbys$Standby", name := "cut", desc := "(I)V" } : Jvm.MethodName) prog_7_method_4_code (2 : Nat) (Option.none : Option Jvm.ClassFile.FieldType)) ∈ lw_all := lw_g (lw_at lw_m3 236 rfl) rfl
theorem q770 : (Jvm.Cond.methodLink "FencedStandbys$Standby" (35 : Nat) ({ cls := "java/lang/Math", name := "min", desc := "(II)I" } : Jvm.MethodName)) ∈ lw_all := lw_g (lw_at lw_m3 237 rfl) rfl
theorem q771 : (Jvm.Cond.methodLink "FencedStandbys$Standby" (41 : Nat) ({ cls := "java/util/BitSet", name := "clear", desc := "(II)V" } : Jvm.MethodName)) ∈ lw_all := lw_g (lw_at lw_m3 238 rfl) rfl
theorem q807 : (Jvm.Cond.instanceMethod ({ cls := "FencedStandbys$Standby", name := "hasNext", desc := "()Z" } : Jvm.MethodName)) ∈ lw_all := lw_g (lw_at lw_m4 34 rfl) rfl
theorem q808 : (Jvm.Cond.selects "FencedStandbys$Standby" ({ cls := "FencedStandbys$Standby", name := "hasNext", desc := "()Z" } : Jvm.MethodName) ({ cls := "FencedStandbys$Standby", name := "hasNext", desc := "()Z" } : Jvm.MethodName)) ∈ lw_all := lw_g (lw_at lw_m4 35 rfl) rfl
theorem q809 : (Jvm.Cond.code ({ cls := "FencedStandbys$Standby", name := "hasNext", desc := "()Z" } : Jvm.MethodName) prog_7_method_5_code (1 : Nat) (Option.some Jvm.ClassFile.FieldType.boolean)) ∈ lw_all := lw_g (lw_at lw_m4 36 rfl) rfl
theorem q810 : (Jvm.Cond.methodLink "FencedStandbys$Standby" (45 : Nat) ({ cls := "java/util/BitSet", name := "get", desc := "(I)Z" } : Jvm.MethodName)) ∈ lw_all := lw_g (lw_at lw_m4 37 rfl) rfl
theorem q928 : (Jvm.Cond.instanceMethod ({ cls := "FencedStandbys$Standby", name := "canServe", desc := "(I)Z" } : Jvm.MethodName)) ∈ lw_all := lw_g (lw_at lw_m4 155 rfl) rfl
theorem q929 : (Jvm.Cond.selects "FencedStandbys$Standby" ({ cls := "FencedStandbys$Standby", name := "canServe", desc := "(I)Z" } : Jvm.MethodName) ({ cls := "FencedStandbys$Standby", name := "canServe", desc := "(I)Z" } : Jvm.MethodName)) ∈ lw_all := lw_g (lw_at lw_m4 156 rfl) rfl
theorem q930 : (Jvm.Cond.code ({ cls := "FencedStandbys$Standby", name := "canServe", desc := "(I)Z" } : Jvm.MethodName) prog_7_method_7_code (2 : Nat) (Option.some Jvm.ClassFile.FieldType.boolean)) ∈ lw_all := lw_g (lw_at lw_m4 157 rfl) rfl
theorem q1035 : (Jvm.Cond.instanceMethod ({ cls := "FencedStandbys$Standby", name := "end", desc := "()I" } : Jvm.MethodName)) ∈ lw_all := lw_g (lw_at lw_m5 22 rfl) rfl
theorem q1036 : (Jvm.Cond.selects "FencedStandbys$Standby" ({ cls := "FencedStandbys$Standby", name := "end", desc := "()I" } : Jvm.MethodName) ({ cls := "FencedStandbys$Standby", name := "end", desc := "()I" } : Jvm.MethodName)) ∈ lw_all := lw_g (lw_at lw_m5 23 rfl) rfl
theorem q1037 : (Jvm.Cond.code ({ cls := "FencedStandbys$Standby", name := "end", desc := "()I" } : Jvm.MethodName) prog_7_method_6_code (2 : Nat) (Option.some Jvm.ClassFile.FieldType.int)) ∈ lw_all := lw_g (lw_at lw_m5 24 rfl) rfl
theorem q1038 : (Jvm.Cond.methodLink "FencedStandbys$Standby" (49 : Nat) ({ cls := "java/util/BitSet", name := "nextSetBit", desc := "(I)I" } : Jvm.MethodName)) ∈ lw_all := lw_g (lw_at lw_m5 25 rfl) rfl
theorem q1619 : (Jvm.Cond.castable "FencedStandbys$Standby" "java/lang/Object") ∈ lw_tbl := lw_at lw_m7 126 rfl
theorem in_X3 : ∀ w ∈ wsX30, w ∈ lw_all := lw_in wsX30 [183, 185, 187, 189] (by decide +kernel) (by decide +kernel)

/-! FencedStandbys$Refused -/
set_option maxRecDepth 100000
def RX5 : String := "FencedStandbys$Refused"
def TX5 : u_T := fun k => match k with
  | 0 => ("java/lang/Throwable", "cause", "Ljava/lang/Throwable;", false)
  | 1 => ("java/lang/Throwable", "stackTrace", "[Ljava/lang/StackTraceElement;", false)
  | 2 => ("java/lang/Throwable", "suppressedExceptions", "Ljava/util/List;", false)
  | 3 => ("java/lang/Throwable", "detailMessage", "Ljava/lang/String;", false)
  | 4 => ("java/lang/Throwable", "backtrace", "Ljava/lang/Object;", false)
  | 5 => ("java/lang/Throwable", "depth", "I", false)
  | _ => ("FencedStandbys$Refused", "code", "I", true)
def tyX5 : Nat → FieldType := fun k => match k with
  | 0 => .object "java/lang/Throwable"
  | 1 => .array (.object "java/lang/StackTraceElement")
  | 2 => .object "java/util/List"
  | 3 => .object "java/lang/String"
  | 4 => .object "java/lang/Object"
  | 5 => .int
  | _ => .int
abbrev wsX50 : List Cond := u_ws RX5 TX5 7
theorem nmX5 : ∀ a, a < 7 → ∀ b, b < 7 → a ≠ b → (TX5 a).2.1 ≠ (TX5 b).2.1 := by decide +kernel
theorem tyX5_ok : ∀ k, k < 7 → parseFieldDescriptor (TX5 k).2.2.1 = some (tyX5 k) := by decide +kernel
abbrev cX5_init : ByteArray := prog_6_method_1_code
def yX5_init : MethodName := ⟨RX5, "<init>", "(I)V"⟩
def dkwX5_init_0 : List UInt8 := [42, 18, 1, 183, 0, 3, 42, 27, 181, 0, 9, 177]
abbrev dktX5_init_0 : List UInt8 := dkwX5_init_0 ++ []
theorem dksX5_init_0 : cX5_init.data.toList.drop 0 = dktX5_init_0 := by decide +kernel
theorem dX5_init_0 : decode cX5_init 0 = .ok (.aload_n 0, 1) := dk_42 (dk_at dksX5_init_0 0 rfl rfl)
theorem dX5_init_1 : decode cX5_init 1 = .ok (.ldc 1, 2) := dk_18 1 (dk_at dksX5_init_0 1 rfl rfl)
theorem dX5_init_3 : decode cX5_init 3 = .ok (.invokespecial 3, 3) := dk_183 0 3 (dk_at dksX5_init_0 3 rfl rfl)
theorem dX5_init_6 : decode cX5_init 6 = .ok (.aload_n 0, 1) := dk_42 (dk_at dksX5_init_0 6 rfl rfl)
theorem dX5_init_7 : decode cX5_init 7 = .ok (.iload_n 1, 1) := dk_27 (dk_at dksX5_init_0 7 rfl rfl)
theorem dX5_init_8 : decode cX5_init 8 = .ok (.putfield 9, 3) := dk_181 0 9 (dk_at dksX5_init_0 8 rfl rfl)
theorem dX5_init_11 : decode cX5_init 11 = .ok (.return_, 1) := dk_177 (dk_at dksX5_init_0 11 rfl rfl)
theorem q78 : (Jvm.Cond.initialized "FencedStandbys$Refused") ∈ lw_all := lw_g (lw_at lw_m1 25 rfl) rfl
theorem q394 : (Jvm.Cond.selects "FencedStandbys$Refused" ({ cls := "java/lang/Object", name := "getClass", desc := "()Ljava/lang/Class;" } : Jvm.MethodName) ({ cls := "java/lang/Object", name := "getClass", desc := "()Ljava/lang/Class;" } : Jvm.MethodName)) ∈ lw_all := lw_g (lw_at lw_m2 101 rfl) rfl
theorem q555 : (Jvm.Cond.instantiable "FencedStandbys$Refused" (7 : Nat)) ∈ lw_all := lw_g (lw_at lw_m3 22 rfl) rfl
theorem q556 : (Jvm.Cond.castable "FencedStandbys$Refused" "FencedStandbys$Refused") ∈ lw_tbl := lw_at lw_m3 23 rfl
theorem q561 : (Jvm.Cond.selects "FencedStandbys$Refused" ({ cls := "java/lang/Throwable", name := "fillInStackTrace", desc := "(I)Ljava/lang/Throwable;" } : Jvm.MethodName) ({ cls := "java/lang/Throwable", name := "fillInStackTrace", desc := "(I)Ljava/lang/Throwable;" } : Jvm.MethodName)) ∈ lw_all := lw_g (lw_at lw_m3 28 rfl) rfl
theorem q562 : (Jvm.Cond.selects "FencedStandbys$Refused" ({ cls := "java/lang/Throwable", name := "fillInStackTrace", desc := "()Ljava/lang/Throwable;" } : Jvm.MethodName) ({ cls := "java/lang/Throwable", name := "fillInStackTrace", desc := "()Ljava/lang/Throwable;" } : Jvm.MethodName)) ∈ lw_all := lw_g (lw_at lw_m3 29 rfl) rfl
theorem q563 : (Jvm.Cond.lays "FencedStandbys$Refused" "java/lang/Throwable" "cause" "Ljava/lang/Throwable;") ∈ lw_all := lw_g (lw_at lw_m3 30 rfl) rfl
theorem q565 : (Jvm.Cond.lays "FencedStandbys$Refused" "java/lang/Throwable" "stackTrace" "[Ljava/lang/StackTraceElement;") ∈ lw_all := lw_g (lw_at lw_m3 32 rfl) rfl
theorem q567 : (Jvm.Cond.lays "FencedStandbys$Refused" "java/lang/Throwable" "suppressedExceptions" "Ljava/util/List;") ∈ lw_all := lw_g (lw_at lw_m3 34 rfl) rfl
theorem q569 : (Jvm.Cond.lays "FencedStandbys$Refused" "java/lang/Throwable" "detailMessage" "Ljava/lang/String;") ∈ lw_all := lw_g (lw_at lw_m3 36 rfl) rfl
theorem q571 : (Jvm.Cond.lays "FencedStandbys$Refused" "java/lang/Throwable" "backtrace" "Ljava/lang/Object;") ∈ lw_all := lw_g (lw_at lw_m3 38 rfl) rfl
theorem q594 : (Jvm.Cond.instanceMethod ({ cls := "FencedStandbys$Refused", name := "<init>", desc := "(I)V" } : Jvm.MethodName)) ∈ lw_all := lw_g (lw_at lw_m3 61 rfl) rfl
theorem q595 : (Jvm.Cond.code ({ cls := "FencedStandbys$Refused", name := "<init>", desc := "(I)V" } : Jvm.MethodName) prog_6_method_1_code (2 : Nat) (Option.none : Option Jvm.ClassFile.FieldType)) ∈ lw_all := lw_g (lw_at lw_m3 62 rfl) rfl
theorem q596 : (Jvm.Cond.stringRef "FencedStandbys$Refused" (1 : Nat) "refused") ∈ lw_tbl := lw_at lw_m3 63 rfl
theorem q597 : (Jvm.Cond.methodLink "FencedStandbys$Refused" (3 : Nat) ({ cls := "java/lang/Exception", name := "<init>", desc := "(Ljava/lang/String;)V" } : Jvm.MethodName)) ∈ lw_all := lw_g (lw_at lw_m3 64 rfl) rfl
theorem q603 : (Jvm.Cond.fieldLink "FencedStandbys$Refused" (9 : Nat) "FencedStandbys$Refused" "code" "I") ∈ lw_all := lw_g (lw_at lw_m3 70 rfl) rfl
theorem q611 : (Jvm.Cond.laysFinal "FencedStandbys$Refused" "FencedStandbys$Refused" "code" "I") ∈ lw_all := lw_g (lw_at lw_m3 78 rfl) rfl
theorem q612 : (Jvm.Cond.soleField "FencedStandbys$Refused" "code") ∈ lw_all := lw_g (lw_at lw_m3 79 rfl) rfl
theorem q617 : (Jvm.Cond.lays "FencedStandbys$Refused" "java/lang/Throwable" "depth" "I") ∈ lw_all := lw_g (lw_at lw_m3 84 rfl) rfl
theorem q620 : (Jvm.Cond.superclass "FencedStandbys$Refused" "java/lang/Exception") ∈ lw_all := lw_g (lw_at lw_m3 87 rfl) rfl
theorem q1629 : (Jvm.Cond.castable "FencedStandbys$Refused" "java/lang/Object") ∈ lw_tbl := lw_at lw_m7 136 rfl
theorem in_X5 : ∀ w ∈ wsX50, w ∈ lw_all := lw_in wsX50 [563, 565, 567, 569, 571, 617, 611] (by decide +kernel) (by decide +kernel)

/-! FencedStandbys$Note -/
set_option maxRecDepth 100000
def RX6 : String := "FencedStandbys$Note"
def TX6 : u_T := fun k => match k with
  | 0 => ("FencedStandbys$Note", "kind", "I", true)
  | 1 => ("FencedStandbys$Note", "transaction", "I", true)
  | 2 => ("FencedStandbys$Note", "key", "I", true)
  | 3 => ("FencedStandbys$Note", "value", "I", true)
  | _ => ("FencedStandbys$Note", "tick", "I", true)
def tyX6 : Nat → FieldType := fun k => match k with
  | 0 => .int
  | 1 => .int
  | 2 => .int
  | 3 => .int
  | _ => .int
abbrev wsX60 : List Cond := u_ws RX6 TX6 5
theorem nmX6 : ∀ a, a < 5 → ∀ b, b < 5 → a ≠ b → (TX6 a).2.1 ≠ (TX6 b).2.1 := by decide +kernel
theorem tyX6_ok : ∀ k, k < 5 → parseFieldDescriptor (TX6 k).2.2.1 = some (tyX6 k) := by decide +kernel
abbrev cX6_init : ByteArray := prog_4_method_1_code
def yX6_init : MethodName := ⟨RX6, "<init>", "(III[I)V"⟩
def dkwX6_init_2 : List UInt8 := [167, 0, 7, 25, 4, 4, 46, 181, 0, 24, 177]
abbrev dktX6_init_2 : List UInt8 := dkwX6_init_2 ++ []
def dkwX6_init_1 : List UInt8 := [154, 0, 7, 2, 167, 0, 7, 25, 4, 3, 46, 181, 0, 21, 42, 25, 4, 190, 154, 0, 7, 2]
abbrev dktX6_init_1 : List UInt8 := dkwX6_init_1 ++ dktX6_init_2
def dkwX6_init_0 : List UInt8 := [42, 183, 0, 3, 42, 27, 181, 0, 9, 42, 28, 181, 0, 15, 42, 29, 181, 0, 18, 42, 25, 4, 190]
abbrev dktX6_init_0 : List UInt8 := dkwX6_init_0 ++ dktX6_init_1
theorem dksX6_init_0 : cX6_init.data.toList.drop 0 = dktX6_init_0 := by decide +kernel
theorem dksX6_init_1 : cX6_init.data.toList.drop 23 = dktX6_init_1 := dk_seg dksX6_init_0 23 rfl rfl
theorem dksX6_init_2 : cX6_init.data.toList.drop 45 = dktX6_init_2 := dk_seg dksX6_init_1 22 rfl rfl
theorem dX6_init_0 : decode cX6_init 0 = .ok (.aload_n 0, 1) := dk_42 (dk_at dksX6_init_0 0 rfl rfl)
theorem dX6_init_1 : decode cX6_init 1 = .ok (.invokespecial 3, 3) := dk_183 0 3 (dk_at dksX6_init_0 1 rfl rfl)
theorem dX6_init_4 : decode cX6_init 4 = .ok (.aload_n 0, 1) := dk_42 (dk_at dksX6_init_0 4 rfl rfl)
theorem dX6_init_5 : decode cX6_init 5 = .ok (.iload_n 1, 1) := dk_27 (dk_at dksX6_init_0 5 rfl rfl)
theorem dX6_init_6 : decode cX6_init 6 = .ok (.putfield 9, 3) := dk_181 0 9 (dk_at dksX6_init_0 6 rfl rfl)
theorem dX6_init_9 : decode cX6_init 9 = .ok (.aload_n 0, 1) := dk_42 (dk_at dksX6_init_0 9 rfl rfl)
theorem dX6_init_10 : decode cX6_init 10 = .ok (.iload_n 2, 1) := dk_28 (dk_at dksX6_init_0 10 rfl rfl)
theorem dX6_init_11 : decode cX6_init 11 = .ok (.putfield 15, 3) := dk_181 0 15 (dk_at dksX6_init_0 11 rfl rfl)
theorem dX6_init_14 : decode cX6_init 14 = .ok (.aload_n 0, 1) := dk_42 (dk_at dksX6_init_0 14 rfl rfl)
theorem dX6_init_15 : decode cX6_init 15 = .ok (.iload_n 3, 1) := dk_29 (dk_at dksX6_init_0 15 rfl rfl)
theorem dX6_init_16 : decode cX6_init 16 = .ok (.putfield 18, 3) := dk_181 0 18 (dk_at dksX6_init_0 16 rfl rfl)
theorem dX6_init_19 : decode cX6_init 19 = .ok (.aload_n 0, 1) := dk_42 (dk_at dksX6_init_0 19 rfl rfl)
theorem dX6_init_20 : decode cX6_init 20 = .ok (.aload 4, 2) := dk_25 4 (dk_at dksX6_init_0 20 rfl rfl)
theorem dX6_init_22 : decode cX6_init 22 = .ok (.arraylength, 1) := dk_190 (dk_at dksX6_init_0 22 rfl rfl)
theorem dX6_init_23 : decode cX6_init 23 = .ok (.ifCond .ne 7, 3) := dk_154 0 7 (dk_at dksX6_init_1 0 rfl rfl)
theorem dX6_init_26 : decode cX6_init 26 = .ok (.iconst (-1), 1) := dk_2 (dk_at dksX6_init_1 3 rfl rfl)
theorem dX6_init_27 : decode cX6_init 27 = .ok (.goto 7, 3) := dk_167 0 7 (dk_at dksX6_init_1 4 rfl rfl)
theorem dX6_init_30 : decode cX6_init 30 = .ok (.aload 4, 2) := dk_25 4 (dk_at dksX6_init_1 7 rfl rfl)
theorem dX6_init_32 : decode cX6_init 32 = .ok (.iconst 0, 1) := dk_3 (dk_at dksX6_init_1 9 rfl rfl)
theorem dX6_init_33 : decode cX6_init 33 = .ok (.iaload, 1) := dk_46 (dk_at dksX6_init_1 10 rfl rfl)
theorem dX6_init_34 : decode cX6_init 34 = .ok (.putfield 21, 3) := dk_181 0 21 (dk_at dksX6_init_1 11 rfl rfl)
theorem dX6_init_37 : decode cX6_init 37 = .ok (.aload_n 0, 1) := dk_42 (dk_at dksX6_init_1 14 rfl rfl)
theorem dX6_init_38 : decode cX6_init 38 = .ok (.aload 4, 2) := dk_25 4 (dk_at dksX6_init_1 15 rfl rfl)
theorem dX6_init_40 : decode cX6_init 40 = .ok (.arraylength, 1) := dk_190 (dk_at dksX6_init_1 17 rfl rfl)
theorem dX6_init_41 : decode cX6_init 41 = .ok (.ifCond .ne 7, 3) := dk_154 0 7 (dk_at dksX6_init_1 18 rfl rfl)
theorem dX6_init_44 : decode cX6_init 44 = .ok (.iconst (-1), 1) := dk_2 (dk_at dksX6_init_1 21 rfl rfl)
theorem dX6_init_45 : decode cX6_init 45 = .ok (.goto 7, 3) := dk_167 0 7 (dk_at dksX6_init_2 0 rfl rfl)
theorem dX6_init_48 : decode cX6_init 48 = .ok (.aload 4, 2) := dk_25 4 (dk_at dksX6_init_2 3 rfl rfl)
theorem dX6_init_50 : decode cX6_init 50 = .ok (.iconst 1, 1) := dk_4 (dk_at dksX6_init_2 5 rfl rfl)
theorem dX6_init_51 : decode cX6_init 51 = .ok (.iaload, 1) := dk_46 (dk_at dksX6_init_2 6 rfl rfl)
theorem dX6_init_52 : decode cX6_init 52 = .ok (.putfield 24, 3) := dk_181 0 24 (dk_at dksX6_init_2 7 rfl rfl)
theorem dX6_init_55 : decode cX6_init 55 = .ok (.return_, 1) := dk_177 (dk_at dksX6_init_2 10 rfl rfl)
abbrev cX6_writtenIn : ByteArray := prog_4_method_2_code
def yX6_writtenIn : MethodName := ⟨RX6, "writtenIn", "()I"⟩
theorem dX6_writtenIn_0 : decode cX6_writtenIn 0 = .ok (.aload_n 0, 1) := by decide +kernel
theorem dX6_writtenIn_1 : decode cX6_writtenIn 1 = .ok (.getfield 18, 3) := by decide +kernel
theorem dX6_writtenIn_4 : decode cX6_writtenIn 4 = .ok (.ireturn, 1) := by decide +kernel
abbrev cX6_isOf : ByteArray := prog_4_method_3_code
def yX6_isOf : MethodName := ⟨RX6, "isOf", "(II)Z"⟩
def dkwX6_isOf_0 : List UInt8 := [42, 180, 0, 9, 27, 160, 0, 15, 42, 180, 0, 15, 28, 160, 0, 7, 4, 167, 0, 4, 3, 172]
abbrev dktX6_isOf_0 : List UInt8 := dkwX6_isOf_0 ++ []
theorem dksX6_isOf_0 : cX6_isOf.data.toList.drop 0 = dktX6_isOf_0 := by decide +kernel
theorem dX6_isOf_0 : decode cX6_isOf 0 = .ok (.aload_n 0, 1) := dk_42 (dk_at dksX6_isOf_0 0 rfl rfl)
theorem dX6_isOf_1 : decode cX6_isOf 1 = .ok (.getfield 9, 3) := dk_180 0 9 (dk_at dksX6_isOf_0 1 rfl rfl)
theorem dX6_isOf_4 : decode cX6_isOf 4 = .ok (.iload_n 1, 1) := dk_27 (dk_at dksX6_isOf_0 4 rfl rfl)
theorem dX6_isOf_5 : decode cX6_isOf 5 = .ok (.if_icmp .ne 15, 3) := dk_160 0 15 (dk_at dksX6_isOf_0 5 rfl rfl)
theorem dX6_isOf_8 : decode cX6_isOf 8 = .ok (.aload_n 0, 1) := dk_42 (dk_at dksX6_isOf_0 8 rfl rfl)
theorem dX6_isOf_9 : decode cX6_isOf 9 = .ok (.getfield 15, 3) := dk_180 0 15 (dk_at dksX6_isOf_0 9 rfl rfl)
theorem dX6_isOf_12 : decode cX6_isOf 12 = .ok (.iload_n 2, 1) := dk_28 (dk_at dksX6_isOf_0 12 rfl rfl)
theorem dX6_isOf_13 : decode cX6_isOf 13 = .ok (.if_icmp .ne 7, 3) := dk_160 0 7 (dk_at dksX6_isOf_0 13 rfl rfl)
theorem dX6_isOf_16 : decode cX6_isOf 16 = .ok (.iconst 1, 1) := dk_4 (dk_at dksX6_isOf_0 16 rfl rfl)
theorem dX6_isOf_17 : decode cX6_isOf 17 = .ok (.goto 4, 3) := dk_167 0 4 (dk_at dksX6_isOf_0 17 rfl rfl)
theorem dX6_isOf_20 : decode cX6_isOf 20 = .ok (.iconst 0, 1) := dk_3 (dk_at dksX6_isOf_0 20 rfl rfl)
theorem dX6_isOf_21 : decode cX6_isOf 21 = .ok (.ireturn, 1) := dk_172 (dk_at dksX6_isOf_0 21 rfl rfl)
abbrev cX6_told : ByteArray := prog_4_method_4_code
def yX6_told : MethodName := ⟨RX6, "told", "(I)I"⟩
def dkwX6_told_3 : List UInt8 := [172]
abbrev dktX6_told_3 : List UInt8 := dkwX6_told_3 ++ []
def dkwX6_told_2 : List UInt8 := [42, 180, 0, 9, 172, 42, 180, 0, 15, 172, 42, 180, 0, 21, 172, 42, 180, 0, 24, 172, 42, 180, 0, 18]
abbrev dktX6_told_2 : List UInt8 := dkwX6_told_2 ++ dktX6_told_3
def dkwX6_told_1 : List UInt8 := [170, 0, 0, 0, 0, 0, 51, 0, 0, 0, 0, 0, 0, 0, 3, 0, 0, 0, 31, 0, 0, 0, 36, 0, 0, 0, 41, 0, 0, 0, 46]
abbrev dktX6_told_1 : List UInt8 := dkwX6_told_1 ++ dktX6_told_2
def dkwX6_told_0 : List UInt8 := [27]
abbrev dktX6_told_0 : List UInt8 := dkwX6_told_0 ++ dktX6_told_1
theorem dksX6_told_0 : cX6_told.data.toList.drop 0 = dktX6_told_0 := by decide +kernel
theorem dksX6_told_1 : cX6_told.data.toList.drop 1 = dktX6_told_1 := dk_seg dksX6_told_0 1 rfl rfl
theorem dksX6_told_2 : cX6_told.data.toList.drop 32 = dktX6_told_2 := dk_seg dksX6_told_1 31 rfl rfl
theorem dksX6_told_3 : cX6_told.data.toList.drop 56 = dktX6_told_3 := dk_seg dksX6_told_2 24 rfl rfl
theorem dX6_told_0 : decode cX6_told 0 = .ok (.iload_n 1, 1) := dk_27 (dk_at dksX6_told_0 0 rfl rfl)
theorem dX6_told_1 : decode cX6_told 1 = .ok (.tableswitch 51 0 3 #[31, 36, 41, 46], 31) := by decide +kernel
theorem dX6_told_32 : decode cX6_told 32 = .ok (.aload_n 0, 1) := dk_42 (dk_at dksX6_told_2 0 rfl rfl)
theorem dX6_told_33 : decode cX6_told 33 = .ok (.getfield 9, 3) := dk_180 0 9 (dk_at dksX6_told_2 1 rfl rfl)
theorem dX6_told_36 : decode cX6_told 36 = .ok (.ireturn, 1) := dk_172 (dk_at dksX6_told_2 4 rfl rfl)
theorem dX6_told_37 : decode cX6_told 37 = .ok (.aload_n 0, 1) := dk_42 (dk_at dksX6_told_2 5 rfl rfl)
theorem dX6_told_38 : decode cX6_told 38 = .ok (.getfield 15, 3) := dk_180 0 15 (dk_at dksX6_told_2 6 rfl rfl)
theorem dX6_told_41 : decode cX6_told 41 = .ok (.ireturn, 1) := dk_172 (dk_at dksX6_told_2 9 rfl rfl)
theorem dX6_told_42 : decode cX6_told 42 = .ok (.aload_n 0, 1) := dk_42 (dk_at dksX6_told_2 10 rfl rfl)
theorem dX6_told_43 : decode cX6_told 43 = .ok (.getfield 21, 3) := dk_180 0 21 (dk_at dksX6_told_2 11 rfl rfl)
theorem dX6_told_46 : decode cX6_told 46 = .ok (.ireturn, 1) := dk_172 (dk_at dksX6_told_2 14 rfl rfl)
theorem dX6_told_47 : decode cX6_told 47 = .ok (.aload_n 0, 1) := dk_42 (dk_at dksX6_told_2 15 rfl rfl)
theorem dX6_told_48 : decode cX6_told 48 = .ok (.getfield 24, 3) := dk_180 0 24 (dk_at dksX6_told_2 16 rfl rfl)
theorem dX6_told_51 : decode cX6_told 51 = .ok (.ireturn, 1) := dk_172 (dk_at dksX6_told_2 19 rfl rfl)
theorem dX6_told_52 : decode cX6_told 52 = .ok (.aload_n 0, 1) := dk_42 (dk_at dksX6_told_2 20 rfl rfl)
theorem dX6_told_53 : decode cX6_told 53 = .ok (.getfield 18, 3) := dk_180 0 18 (dk_at dksX6_told_2 21 rfl rfl)
theorem dX6_told_56 : decode cX6_told 56 = .ok (.ireturn, 1) := dk_172 (dk_at dksX6_told_3 0 rfl rfl)
theorem q79 : (Jvm.Cond.initialized "FencedStandbys$Note") ∈ lw_all := lw_g (lw_at lw_m1 26 rfl) rfl
theorem q392 : (Jvm.Cond.selects "FencedStandbys$Note" ({ cls := "java/lang/Object", name := "getClass", desc := "()Ljava/lang/Class;" } : Jvm.MethodName) ({ cls := "java/lang/Object", name := "getClass", desc := "()Ljava/lang/Class;" } : Jvm.MethodName)) ∈ lw_all := lw_g (lw_at lw_m2 99 rfl) rfl
theorem q646 : (Jvm.Cond.instantiable "FencedStandbys$Note" (5 : Nat)) ∈ lw_all := lw_g (lw_at lw_m3 113 rfl) rfl
theorem q648 : (Jvm.Cond.instanceMethod ({ cls := "FencedStandbys$Note", name := "<init>", desc := "(III[I)V" } : Jvm.MethodName)) ∈ lw_all := lw_g (lw_at lw_m3 115 rfl) rfl
theorem q649 : (Jvm.Cond.code ({ cls := "FencedStandbys$Note", name := "<init>", desc := "(III[I)V" } : Jvm.MethodName) prog_4_method_1_code (5 : Nat) (Option.none : Option Jvm.ClassFile.FieldType)) ∈ lw_all := lw_g (lw_at lw_m3 116 rfl) rfl
theorem q650 : (Jvm.Cond.methodLink "FencedStandbys$Note" (3 : Nat) ({ cls := "java/lang/Object", name := "<init>", desc := "()V" } : Jvm.MethodName)) ∈ lw_all := lw_g (lw_at lw_m3 117 rfl) rfl
theorem q651 : (Jvm.Cond.fieldLink "FencedStandbys$Note" (9 : Nat) "FencedStandbys$Note" "kind" "I") ∈ lw_all := lw_g (lw_at lw_m3 118 rfl) rfl
theorem q653 : (Jvm.Cond.fieldLink "FencedStandbys$Note" (15 : Nat) "FencedStandbys$Note" "transaction" "I") ∈ lw_all := lw_g (lw_at lw_m3 120 rfl) rfl
theorem q655 : (Jvm.Cond.fieldLink "FencedStandbys$Note" (21 : Nat) "FencedStandbys$Note" "key" "I") ∈ lw_all := lw_g (lw_at lw_m3 122 rfl) rfl
theorem q657 : (Jvm.Cond.fieldLink "FencedStandbys$Note" (24 : Nat) "FencedStandbys$Note" "value" "I") ∈ lw_all := lw_g (lw_at lw_m3 124 rfl) rfl
theorem q659 : (Jvm.Cond.fieldLink "FencedStandbys$Note" (18 : Nat) "FencedStandbys$Note" "tick" "I") ∈ lw_all := lw_g (lw_at lw_m3 126 rfl) rfl
theorem q661 : (Jvm.Cond.laysFinal "FencedStandbys$Note" "FencedStandbys$Note" "kind" "I") ∈ lw_all := lw_g (lw_at lw_m3 128 rfl) rfl
theorem q662 : (Jvm.Cond.soleField "FencedStandbys$Note" "kind") ∈ lw_all := lw_g (lw_at lw_m3 129 rfl) rfl
theorem q663 : (Jvm.Cond.laysFinal "FencedStandbys$Note" "FencedStandbys$Note" "transaction" "I") ∈ lw_all := lw_g (lw_at lw_m3 130 rfl) rfl
theorem q664 : (Jvm.Cond.soleField "FencedStandbys$Note" "transaction") ∈ lw_all := lw_g (lw_at lw_m3 131 rfl) rfl
theorem q665 : (Jvm.Cond.laysFinal "FencedStandbys$Note" "FencedStandbys$Note" "key" "I") ∈ lw_all := lw_g (lw_at lw_m3 132 rfl) rfl
theorem q666 : (Jvm.Cond.soleField "FencedStandbys$Note" "key") ∈ lw_all := lw_g (lw_at lw_m3 133 rfl) rfl
theorem q667 : (Jvm.Cond.laysFinal "FencedStandbys$Note" "FencedStandbys$Note" "value" "I") ∈ lw_all := lw_g (lw_at lw_m3 134 rfl) rfl
theorem q668 : (Jvm.Cond.soleField "FencedStandbys$Note" "value") ∈ lw_all := lw_g (lw_at lw_m3 135 rfl) rfl
theorem q669 : (Jvm.Cond.laysFinal "FencedStandbys$Note" "FencedStandbys$Note" "tick" "I") ∈ lw_all := lw_g (lw_at lw_m3 136 rfl) rfl
theorem q670 : (Jvm.Cond.soleField "FencedStandbys$Note" "tick") ∈ lw_all := lw_g (lw_at lw_m3 137 rfl) rfl
theorem q671 : (Jvm.Cond.superclass "FencedStandbys$Note" "java/lang/Object") ∈ lw_all := lw_g (lw_at lw_m3 138 rfl) rfl
theorem q815 : (Jvm.Cond.castable "FencedStandbys$Note" "FencedStandbys$Written") ∈ lw_tbl := lw_at lw_m4 42 rfl
theorem q816 : (Jvm.Cond.unhidden "FencedStandbys$Note" "isAgo" "(II)Z") ∈ lw_tbl := lw_at lw_m4 43 rfl
theorem q824 : (Jvm.Cond.selects "FencedStandbys$Note" ({ cls := "FencedStandbys$Written", name := "writtenIn", desc := "()I" } : Jvm.MethodName) ({ cls := "FencedStandbys$Note", name := "writtenIn", desc := "()I" } : Jvm.MethodName)) ∈ lw_all := lw_g (lw_at lw_m4 51 rfl) rfl
theorem q825 : (Jvm.Cond.unhidden "FencedStandbys$Note" "writtenIn" "()I") ∈ lw_tbl := lw_at lw_m4 52 rfl
theorem q826 : (Jvm.Cond.instanceMethod ({ cls := "FencedStandbys$Note", name := "writtenIn", desc := "()I" } : Jvm.MethodName)) ∈ lw_all := lw_g (lw_at lw_m4 53 rfl) rfl
theorem q827 : (Jvm.Cond.publicMethod ({ cls := "FencedStandbys$Note", name := "writtenIn", desc := "()I" } : Jvm.MethodName)) ∈ lw_tbl := lw_at lw_m4 54 rfl
theorem q828 : (Jvm.Cond.code ({ cls := "FencedStandbys$Note", name := "writtenIn", desc := "()I" } : Jvm.MethodName) prog_4_method_2_code (1 : Nat) (Option.some Jvm.ClassFile.FieldType.int)) ∈ lw_all := lw_g (lw_at lw_m4 55 rfl) rfl
theorem q944 : (Jvm.Cond.instanceMethod ({ cls := "FencedStandbys$Note", name := "isOf", desc := "(II)Z" } : Jvm.MethodName)) ∈ lw_all := lw_g (lw_at lw_m4 171 rfl) rfl
theorem q945 : (Jvm.Cond.selects "FencedStandbys$Note" ({ cls := "FencedStandbys$Note", name := "isOf", desc := "(II)Z" } : Jvm.MethodName) ({ cls := "FencedStandbys$Note", name := "isOf", desc := "(II)Z" } : Jvm.MethodName)) ∈ lw_all := lw_g (lw_at lw_m4 172 rfl) rfl
theorem q946 : (Jvm.Cond.code ({ cls := "FencedStandbys$Note", name := "isOf", desc := "(II)Z" } : Jvm.MethodName) prog_4_method_3_code (3 : Nat) (Option.some Jvm.ClassFile.FieldType.boolean)) ∈ lw_all := lw_g (lw_at lw_m4 173 rfl) rfl
theorem q976 : (Jvm.Cond.instanceMethod ({ cls := "FencedStandbys$Note", name := "told", desc := "(I)I" } : Jvm.MethodName)) ∈ lw_all := lw_g (lw_at lw_m4 203 rfl) rfl
theorem q977 : (Jvm.Cond.selects "FencedStandbys$Note" ({ cls := "FencedStandbys$Note", name := "told", desc := "(I)I" } : Jvm.MethodName) ({ cls := "FencedStandbys$Note", name := "told", desc := "(I)I" } : Jvm.MethodName)) ∈ lw_all := lw_g (lw_at lw_m4 204 rfl) rfl
theorem q978 : (Jvm.Cond.code ({ cls := "FencedStandbys$Note", name := "told", desc := "(I)I" } : Jvm.MethodName) prog_4_method_4_code (2 : Nat) (Option.some Jvm.ClassFile.FieldType.int)) ∈ lw_all := lw_g (lw_at lw_m4 205 rfl) rfl
theorem q1630 : (Jvm.Cond.castable "FencedStandbys$Note" "java/lang/Object") ∈ lw_tbl := lw_at lw_m7 137 rfl
theorem in_X6 : ∀ w ∈ wsX60, w ∈ lw_all := lw_in wsX60 [661, 663, 665, 667, 669] (by decide +kernel) (by decide +kernel)

/-! FencedStandbys$Reader -/
set_option maxRecDepth 100000
def RX7 : String := "FencedStandbys$Reader"
def TX7 : u_T := fun k => match k with
  | 0 => ("FencedStandbys$Reader", "read", "Ljava/lang/CharSequence;", true)
  | 1 => ("FencedStandbys$Reader", "trial", "LFencedStandbys$Store;", true)
  | 2 => ("FencedStandbys$Reader", "numbers", "[I", true)
  | 3 => ("FencedStandbys$Reader", "at", "I", false)
  | 4 => ("FencedStandbys$Reader", "begins", "I", false)
  | 5 => ("FencedStandbys$Reader", "many", "I", false)
  | _ => ("FencedStandbys$Reader", "this$0", "LFencedStandbys;", true)
def tyX7 : Nat → FieldType := fun k => match k with
  | 0 => .object "java/lang/CharSequence"
  | 1 => .object "FencedStandbys$Store"
  | 2 => .array .int
  | 3 => .int
  | 4 => .int
  | 5 => .int
  | _ => .object "FencedStandbys"
abbrev wsX70 : List Cond := u_ws RX7 TX7 7
theorem nmX7 : ∀ a, a < 7 → ∀ b, b < 7 → a ≠ b → (TX7 a).2.1 ≠ (TX7 b).2.1 := by decide +kernel
theorem tyX7_ok : ∀ k, k < 7 → parseFieldDescriptor (TX7 k).2.2.1 = some (tyX7 k) := by decide +kernel
abbrev cX7_init : ByteArray := prog_5_method_1_code
def yX7_init : MethodName := ⟨RX7, "<init>", "(LFencedStandbys;)V"⟩
def dkwX7_init_1 : List UInt8 := [89, 42, 180, 0, 1, 180, 0, 25, 183, 0, 29, 181, 0, 32, 42, 6, 188, 10, 181, 0, 35, 177]
abbrev dktX7_init_1 : List UInt8 := dkwX7_init_1 ++ []
def dkwX7_init_0 : List UInt8 := [42, 43, 181, 0, 1, 42, 183, 0, 7, 42, 42, 180, 0, 1, 180, 0, 13, 181, 0, 19, 42, 187, 0, 23]
abbrev dktX7_init_0 : List UInt8 := dkwX7_init_0 ++ dktX7_init_1
theorem dksX7_init_0 : cX7_init.data.toList.drop 0 = dktX7_init_0 := by decide +kernel
theorem dksX7_init_1 : cX7_init.data.toList.drop 24 = dktX7_init_1 := dk_seg dksX7_init_0 24 rfl rfl
theorem dX7_init_0 : decode cX7_init 0 = .ok (.aload_n 0, 1) := dk_42 (dk_at dksX7_init_0 0 rfl rfl)
theorem dX7_init_1 : decode cX7_init 1 = .ok (.aload_n 1, 1) := dk_43 (dk_at dksX7_init_0 1 rfl rfl)
theorem dX7_init_2 : decode cX7_init 2 = .ok (.putfield 1, 3) := dk_181 0 1 (dk_at dksX7_init_0 2 rfl rfl)
theorem dX7_init_5 : decode cX7_init 5 = .ok (.aload_n 0, 1) := dk_42 (dk_at dksX7_init_0 5 rfl rfl)
theorem dX7_init_6 : decode cX7_init 6 = .ok (.invokespecial 7, 3) := dk_183 0 7 (dk_at dksX7_init_0 6 rfl rfl)
theorem dX7_init_9 : decode cX7_init 9 = .ok (.aload_n 0, 1) := dk_42 (dk_at dksX7_init_0 9 rfl rfl)
theorem dX7_init_10 : decode cX7_init 10 = .ok (.aload_n 0, 1) := dk_42 (dk_at dksX7_init_0 10 rfl rfl)
theorem dX7_init_11 : decode cX7_init 11 = .ok (.getfield 1, 3) := dk_180 0 1 (dk_at dksX7_init_0 11 rfl rfl)
theorem dX7_init_14 : decode cX7_init 14 = .ok (.getfield 13, 3) := dk_180 0 13 (dk_at dksX7_init_0 14 rfl rfl)
theorem dX7_init_17 : decode cX7_init 17 = .ok (.putfield 19, 3) := dk_181 0 19 (dk_at dksX7_init_0 17 rfl rfl)
theorem dX7_init_20 : decode cX7_init 20 = .ok (.aload_n 0, 1) := dk_42 (dk_at dksX7_init_0 20 rfl rfl)
theorem dX7_init_21 : decode cX7_init 21 = .ok (.new 23, 3) := dk_187 0 23 (dk_at dksX7_init_0 21 rfl rfl)
theorem dX7_init_24 : decode cX7_init 24 = .ok (.dup, 1) := dk_89 (dk_at dksX7_init_1 0 rfl rfl)
theorem dX7_init_25 : decode cX7_init 25 = .ok (.aload_n 0, 1) := dk_42 (dk_at dksX7_init_1 1 rfl rfl)
theorem dX7_init_26 : decode cX7_init 26 = .ok (.getfield 1, 3) := dk_180 0 1 (dk_at dksX7_init_1 2 rfl rfl)
theorem dX7_init_29 : decode cX7_init 29 = .ok (.getfield 25, 3) := dk_180 0 25 (dk_at dksX7_init_1 5 rfl rfl)
theorem dX7_init_32 : decode cX7_init 32 = .ok (.invokespecial 29, 3) := dk_183 0 29 (dk_at dksX7_init_1 8 rfl rfl)
theorem dX7_init_35 : decode cX7_init 35 = .ok (.putfield 32, 3) := dk_181 0 32 (dk_at dksX7_init_1 11 rfl rfl)
theorem dX7_init_38 : decode cX7_init 38 = .ok (.aload_n 0, 1) := dk_42 (dk_at dksX7_init_1 14 rfl rfl)
theorem dX7_init_39 : decode cX7_init 39 = .ok (.iconst 3, 1) := dk_6 (dk_at dksX7_init_1 15 rfl rfl)
theorem dX7_init_40 : decode cX7_init 40 = .ok (.newarray .int, 2) := dk_188_10 (dk_at dksX7_init_1 16 rfl rfl)
theorem dX7_init_42 : decode cX7_init 42 = .ok (.putfield 35, 3) := dk_181 0 35 (dk_at dksX7_init_1 18 rfl rfl)
theorem dX7_init_45 : decode cX7_init 45 = .ok (.return_, 1) := dk_177 (dk_at dksX7_init_1 21 rfl rfl)
abbrev cX7_all : ByteArray := prog_5_method_7_code
def yX7_all : MethodName := ⟨RX7, "all", "()V"⟩
def dkwX7_all_1 : List UInt8 := [42, 182, 0, 106, 167, 255, 228, 177]
abbrev dktX7_all_1 : List UInt8 := dkwX7_all_1 ++ []
def dkwX7_all_0 : List UInt8 := [42, 180, 0, 39, 42, 180, 0, 19, 185, 0, 43, 1, 0, 162, 0, 18, 42, 42, 180, 0, 39, 181, 0, 63]
abbrev dktX7_all_0 : List UInt8 := dkwX7_all_0 ++ dktX7_all_1
theorem dksX7_all_0 : cX7_all.data.toList.drop 0 = dktX7_all_0 := by decide +kernel
theorem dksX7_all_1 : cX7_all.data.toList.drop 24 = dktX7_all_1 := dk_seg dksX7_all_0 24 rfl rfl
theorem dX7_all_0 : decode cX7_all 0 = .ok (.aload_n 0, 1) := dk_42 (dk_at dksX7_all_0 0 rfl rfl)
theorem dX7_all_1 : decode cX7_all 1 = .ok (.getfield 39, 3) := dk_180 0 39 (dk_at dksX7_all_0 1 rfl rfl)
theorem dX7_all_4 : decode cX7_all 4 = .ok (.aload_n 0, 1) := dk_42 (dk_at dksX7_all_0 4 rfl rfl)
theorem dX7_all_5 : decode cX7_all 5 = .ok (.getfield 19, 3) := dk_180 0 19 (dk_at dksX7_all_0 5 rfl rfl)
theorem dX7_all_8 : decode cX7_all 8 = .ok (.invokeinterface 43 1, 5) := by decide +kernel
theorem dX7_all_13 : decode cX7_all 13 = .ok (.if_icmp .ge 18, 3) := dk_162 0 18 (dk_at dksX7_all_0 13 rfl rfl)
theorem dX7_all_16 : decode cX7_all 16 = .ok (.aload_n 0, 1) := dk_42 (dk_at dksX7_all_0 16 rfl rfl)
theorem dX7_all_17 : decode cX7_all 17 = .ok (.aload_n 0, 1) := dk_42 (dk_at dksX7_all_0 17 rfl rfl)
theorem dX7_all_18 : decode cX7_all 18 = .ok (.getfield 39, 3) := dk_180 0 39 (dk_at dksX7_all_0 18 rfl rfl)
theorem dX7_all_21 : decode cX7_all 21 = .ok (.putfield 63, 3) := dk_181 0 63 (dk_at dksX7_all_0 21 rfl rfl)
theorem dX7_all_24 : decode cX7_all 24 = .ok (.aload_n 0, 1) := dk_42 (dk_at dksX7_all_1 0 rfl rfl)
theorem dX7_all_25 : decode cX7_all 25 = .ok (.invokevirtual 106, 3) := dk_182 0 106 (dk_at dksX7_all_1 1 rfl rfl)
theorem dX7_all_28 : decode cX7_all 28 = .ok (.goto (-28), 3) := dk_167 255 228 (dk_at dksX7_all_1 4 rfl rfl)
theorem dX7_all_31 : decode cX7_all 31 = .ok (.return_, 1) := dk_177 (dk_at dksX7_all_1 7 rfl rfl)
abbrev cX7_one : ByteArray := prog_5_method_6_code
def yX7_one : MethodName := ⟨RX7, "one", "()V"⟩
def dkwX7_one_4 : List UInt8 := [96, 181, 0, 101, 167, 0, 18, 77, 187, 0, 61, 89, 42, 180, 0, 63, 3, 44, 183, 0, 66, 191, 177]
abbrev dktX7_one_4 : List UInt8 := dkwX7_one_4 ++ []
def dkwX7_one_3 : List UInt8 := [18, 92, 182, 0, 94, 42, 180, 0, 32, 27, 42, 180, 0, 35, 184, 0, 97, 61, 42, 89, 180, 0, 101, 4]
abbrev dktX7_one_3 : List UInt8 := dkwX7_one_3 ++ dktX7_one_4
def dkwX7_one_2 : List UInt8 := [42, 27, 16, 112, 160, 0, 8, 18, 88, 167, 0, 16, 27, 16, 115, 160, 0, 8, 18, 90, 167, 0, 5]
abbrev dktX7_one_2 : List UInt8 := dkwX7_one_2 ++ dktX7_one_3
def dkwX7_one_1 : List UInt8 := [187, 0, 61, 89, 42, 180, 0, 63, 3, 1, 183, 0, 66, 191, 42, 89, 180, 0, 39, 4, 96, 181, 0, 39]
abbrev dktX7_one_1 : List UInt8 := dkwX7_one_1 ++ dktX7_one_2
def dkwX7_one_0 : List UInt8 := [42, 180, 0, 19, 42, 180, 0, 39, 185, 0, 49, 2, 0, 60, 18, 80, 27, 182, 0, 82, 156, 0, 17]
abbrev dktX7_one_0 : List UInt8 := dkwX7_one_0 ++ dktX7_one_1
theorem dksX7_one_0 : cX7_one.data.toList.drop 0 = dktX7_one_0 := by decide +kernel
theorem dksX7_one_1 : cX7_one.data.toList.drop 23 = dktX7_one_1 := dk_seg dksX7_one_0 23 rfl rfl
theorem dksX7_one_2 : cX7_one.data.toList.drop 47 = dktX7_one_2 := dk_seg dksX7_one_1 24 rfl rfl
theorem dksX7_one_3 : cX7_one.data.toList.drop 70 = dktX7_one_3 := dk_seg dksX7_one_2 23 rfl rfl
theorem dksX7_one_4 : cX7_one.data.toList.drop 94 = dktX7_one_4 := dk_seg dksX7_one_3 24 rfl rfl
theorem dX7_one_0 : decode cX7_one 0 = .ok (.aload_n 0, 1) := dk_42 (dk_at dksX7_one_0 0 rfl rfl)
theorem dX7_one_1 : decode cX7_one 1 = .ok (.getfield 19, 3) := dk_180 0 19 (dk_at dksX7_one_0 1 rfl rfl)
theorem dX7_one_4 : decode cX7_one 4 = .ok (.aload_n 0, 1) := dk_42 (dk_at dksX7_one_0 4 rfl rfl)
theorem dX7_one_5 : decode cX7_one 5 = .ok (.getfield 39, 3) := dk_180 0 39 (dk_at dksX7_one_0 5 rfl rfl)
theorem dX7_one_8 : decode cX7_one 8 = .ok (.invokeinterface 49 2, 5) := by decide +kernel
theorem dX7_one_13 : decode cX7_one 13 = .ok (.istore_n 1, 1) := dk_60 (dk_at dksX7_one_0 13 rfl rfl)
theorem dX7_one_14 : decode cX7_one 14 = .ok (.ldc 80, 2) := dk_18 80 (dk_at dksX7_one_0 14 rfl rfl)
theorem dX7_one_16 : decode cX7_one 16 = .ok (.iload_n 1, 1) := dk_27 (dk_at dksX7_one_0 16 rfl rfl)
theorem dX7_one_17 : decode cX7_one 17 = .ok (.invokevirtual 82, 3) := dk_182 0 82 (dk_at dksX7_one_0 17 rfl rfl)
theorem dX7_one_20 : decode cX7_one 20 = .ok (.ifCond .ge 17, 3) := dk_156 0 17 (dk_at dksX7_one_0 20 rfl rfl)
theorem dX7_one_23 : decode cX7_one 23 = .ok (.new 61, 3) := dk_187 0 61 (dk_at dksX7_one_1 0 rfl rfl)
theorem dX7_one_26 : decode cX7_one 26 = .ok (.dup, 1) := dk_89 (dk_at dksX7_one_1 3 rfl rfl)
theorem dX7_one_27 : decode cX7_one 27 = .ok (.aload_n 0, 1) := dk_42 (dk_at dksX7_one_1 4 rfl rfl)
theorem dX7_one_28 : decode cX7_one 28 = .ok (.getfield 63, 3) := dk_180 0 63 (dk_at dksX7_one_1 5 rfl rfl)
theorem dX7_one_31 : decode cX7_one 31 = .ok (.iconst 0, 1) := dk_3 (dk_at dksX7_one_1 8 rfl rfl)
theorem dX7_one_32 : decode cX7_one 32 = .ok (.aconst_null, 1) := dk_1 (dk_at dksX7_one_1 9 rfl rfl)
theorem dX7_one_33 : decode cX7_one 33 = .ok (.invokespecial 66, 3) := dk_183 0 66 (dk_at dksX7_one_1 10 rfl rfl)
theorem dX7_one_36 : decode cX7_one 36 = .ok (.athrow, 1) := dk_191 (dk_at dksX7_one_1 13 rfl rfl)
theorem dX7_one_37 : decode cX7_one 37 = .ok (.aload_n 0, 1) := dk_42 (dk_at dksX7_one_1 14 rfl rfl)
theorem dX7_one_38 : decode cX7_one 38 = .ok (.dup, 1) := dk_89 (dk_at dksX7_one_1 15 rfl rfl)
theorem dX7_one_39 : decode cX7_one 39 = .ok (.getfield 39, 3) := dk_180 0 39 (dk_at dksX7_one_1 16 rfl rfl)
theorem dX7_one_42 : decode cX7_one 42 = .ok (.iconst 1, 1) := dk_4 (dk_at dksX7_one_1 19 rfl rfl)
theorem dX7_one_43 : decode cX7_one 43 = .ok (.iadd, 1) := dk_96 (dk_at dksX7_one_1 20 rfl rfl)
theorem dX7_one_44 : decode cX7_one 44 = .ok (.putfield 39, 3) := dk_181 0 39 (dk_at dksX7_one_1 21 rfl rfl)
theorem dX7_one_47 : decode cX7_one 47 = .ok (.aload_n 0, 1) := dk_42 (dk_at dksX7_one_2 0 rfl rfl)
theorem dX7_one_48 : decode cX7_one 48 = .ok (.iload_n 1, 1) := dk_27 (dk_at dksX7_one_2 1 rfl rfl)
theorem dX7_one_49 : decode cX7_one 49 = .ok (.bipush 112, 2) := dk_16 112 (dk_at dksX7_one_2 2 rfl rfl)
theorem dX7_one_51 : decode cX7_one 51 = .ok (.if_icmp .ne 8, 3) := dk_160 0 8 (dk_at dksX7_one_2 4 rfl rfl)
theorem dX7_one_54 : decode cX7_one 54 = .ok (.ldc 88, 2) := dk_18 88 (dk_at dksX7_one_2 7 rfl rfl)
theorem dX7_one_56 : decode cX7_one 56 = .ok (.goto 16, 3) := dk_167 0 16 (dk_at dksX7_one_2 9 rfl rfl)
theorem dX7_one_59 : decode cX7_one 59 = .ok (.iload_n 1, 1) := dk_27 (dk_at dksX7_one_2 12 rfl rfl)
theorem dX7_one_60 : decode cX7_one 60 = .ok (.bipush 115, 2) := dk_16 115 (dk_at dksX7_one_2 13 rfl rfl)
theorem dX7_one_62 : decode cX7_one 62 = .ok (.if_icmp .ne 8, 3) := dk_160 0 8 (dk_at dksX7_one_2 15 rfl rfl)
theorem dX7_one_65 : decode cX7_one 65 = .ok (.ldc 90, 2) := dk_18 90 (dk_at dksX7_one_2 18 rfl rfl)
theorem dX7_one_67 : decode cX7_one 67 = .ok (.goto 5, 3) := dk_167 0 5 (dk_at dksX7_one_2 20 rfl rfl)
theorem dX7_one_70 : decode cX7_one 70 = .ok (.ldc 92, 2) := dk_18 92 (dk_at dksX7_one_3 0 rfl rfl)
theorem dX7_one_72 : decode cX7_one 72 = .ok (.invokevirtual 94, 3) := dk_182 0 94 (dk_at dksX7_one_3 2 rfl rfl)
theorem dX7_one_75 : decode cX7_one 75 = .ok (.aload_n 0, 1) := dk_42 (dk_at dksX7_one_3 5 rfl rfl)
theorem dX7_one_76 : decode cX7_one 76 = .ok (.getfield 32, 3) := dk_180 0 32 (dk_at dksX7_one_3 6 rfl rfl)
theorem dX7_one_79 : decode cX7_one 79 = .ok (.iload_n 1, 1) := dk_27 (dk_at dksX7_one_3 9 rfl rfl)
theorem dX7_one_80 : decode cX7_one 80 = .ok (.aload_n 0, 1) := dk_42 (dk_at dksX7_one_3 10 rfl rfl)
theorem dX7_one_81 : decode cX7_one 81 = .ok (.getfield 35, 3) := dk_180 0 35 (dk_at dksX7_one_3 11 rfl rfl)
theorem dX7_one_84 : decode cX7_one 84 = .ok (.invokestatic 97, 3) := dk_184 0 97 (dk_at dksX7_one_3 14 rfl rfl)
theorem dX7_one_87 : decode cX7_one 87 = .ok (.istore_n 2, 1) := dk_61 (dk_at dksX7_one_3 17 rfl rfl)
theorem dX7_one_88 : decode cX7_one 88 = .ok (.aload_n 0, 1) := dk_42 (dk_at dksX7_one_3 18 rfl rfl)
theorem dX7_one_89 : decode cX7_one 89 = .ok (.dup, 1) := dk_89 (dk_at dksX7_one_3 19 rfl rfl)
theorem dX7_one_90 : decode cX7_one 90 = .ok (.getfield 101, 3) := dk_180 0 101 (dk_at dksX7_one_3 20 rfl rfl)
theorem dX7_one_93 : decode cX7_one 93 = .ok (.iconst 1, 1) := dk_4 (dk_at dksX7_one_3 23 rfl rfl)
theorem dX7_one_94 : decode cX7_one 94 = .ok (.iadd, 1) := dk_96 (dk_at dksX7_one_4 0 rfl rfl)
theorem dX7_one_95 : decode cX7_one 95 = .ok (.putfield 101, 3) := dk_181 0 101 (dk_at dksX7_one_4 1 rfl rfl)
theorem dX7_one_98 : decode cX7_one 98 = .ok (.goto 18, 3) := dk_167 0 18 (dk_at dksX7_one_4 4 rfl rfl)
theorem dX7_one_101 : decode cX7_one 101 = .ok (.astore_n 2, 1) := dk_77 (dk_at dksX7_one_4 7 rfl rfl)
theorem dX7_one_102 : decode cX7_one 102 = .ok (.new 61, 3) := dk_187 0 61 (dk_at dksX7_one_4 8 rfl rfl)
theorem dX7_one_105 : decode cX7_one 105 = .ok (.dup, 1) := dk_89 (dk_at dksX7_one_4 11 rfl rfl)
theorem dX7_one_106 : decode cX7_one 106 = .ok (.aload_n 0, 1) := dk_42 (dk_at dksX7_one_4 12 rfl rfl)
theorem dX7_one_107 : decode cX7_one 107 = .ok (.getfield 63, 3) := dk_180 0 63 (dk_at dksX7_one_4 13 rfl rfl)
theorem dX7_one_110 : decode cX7_one 110 = .ok (.iconst 0, 1) := dk_3 (dk_at dksX7_one_4 16 rfl rfl)
theorem dX7_one_111 : decode cX7_one 111 = .ok (.aload_n 2, 1) := dk_44 (dk_at dksX7_one_4 17 rfl rfl)
theorem dX7_one_112 : decode cX7_one 112 = .ok (.invokespecial 66, 3) := dk_183 0 66 (dk_at dksX7_one_4 18 rfl rfl)
theorem dX7_one_115 : decode cX7_one 115 = .ok (.athrow, 1) := dk_191 (dk_at dksX7_one_4 21 rfl rfl)
theorem dX7_one_116 : decode cX7_one 116 = .ok (.return_, 1) := dk_177 (dk_at dksX7_one_4 22 rfl rfl)
abbrev cX7_numbers : ByteArray := prog_5_method_5_code
def yX7_numbers : MethodName := ⟨RX7, "numbers", "(Ljava/lang/CharSequence;)V"⟩
def dkwX7_numbers_2 : List UInt8 := [167, 255, 220, 42, 16, 59, 182, 0, 76, 177]
abbrev dktX7_numbers_2 : List UInt8 := dkwX7_numbers_2 ++ []
def dkwX7_numbers_1 : List UInt8 := [28, 185, 0, 49, 2, 0, 182, 0, 76, 42, 180, 0, 35, 28, 4, 96, 42, 182, 0, 73, 79, 132, 2, 1]
abbrev dktX7_numbers_1 : List UInt8 := dkwX7_numbers_1 ++ dktX7_numbers_2
def dkwX7_numbers_0 : List UInt8 := [42, 180, 0, 35, 3, 42, 182, 0, 73, 79, 3, 61, 28, 43, 185, 0, 43, 1, 0, 162, 0, 32, 42, 43]
abbrev dktX7_numbers_0 : List UInt8 := dkwX7_numbers_0 ++ dktX7_numbers_1
theorem dksX7_numbers_0 : cX7_numbers.data.toList.drop 0 = dktX7_numbers_0 := by decide +kernel
theorem dksX7_numbers_1 : cX7_numbers.data.toList.drop 24 = dktX7_numbers_1 := dk_seg dksX7_numbers_0 24 rfl rfl
theorem dksX7_numbers_2 : cX7_numbers.data.toList.drop 48 = dktX7_numbers_2 := dk_seg dksX7_numbers_1 24 rfl rfl
theorem dX7_numbers_0 : decode cX7_numbers 0 = .ok (.aload_n 0, 1) := dk_42 (dk_at dksX7_numbers_0 0 rfl rfl)
theorem dX7_numbers_1 : decode cX7_numbers 1 = .ok (.getfield 35, 3) := dk_180 0 35 (dk_at dksX7_numbers_0 1 rfl rfl)
theorem dX7_numbers_4 : decode cX7_numbers 4 = .ok (.iconst 0, 1) := dk_3 (dk_at dksX7_numbers_0 4 rfl rfl)
theorem dX7_numbers_5 : decode cX7_numbers 5 = .ok (.aload_n 0, 1) := dk_42 (dk_at dksX7_numbers_0 5 rfl rfl)
theorem dX7_numbers_6 : decode cX7_numbers 6 = .ok (.invokevirtual 73, 3) := dk_182 0 73 (dk_at dksX7_numbers_0 6 rfl rfl)
theorem dX7_numbers_9 : decode cX7_numbers 9 = .ok (.iastore, 1) := dk_79 (dk_at dksX7_numbers_0 9 rfl rfl)
theorem dX7_numbers_10 : decode cX7_numbers 10 = .ok (.iconst 0, 1) := dk_3 (dk_at dksX7_numbers_0 10 rfl rfl)
theorem dX7_numbers_11 : decode cX7_numbers 11 = .ok (.istore_n 2, 1) := dk_61 (dk_at dksX7_numbers_0 11 rfl rfl)
theorem dX7_numbers_12 : decode cX7_numbers 12 = .ok (.iload_n 2, 1) := dk_28 (dk_at dksX7_numbers_0 12 rfl rfl)
theorem dX7_numbers_13 : decode cX7_numbers 13 = .ok (.aload_n 1, 1) := dk_43 (dk_at dksX7_numbers_0 13 rfl rfl)
theorem dX7_numbers_14 : decode cX7_numbers 14 = .ok (.invokeinterface 43 1, 5) := by decide +kernel
theorem dX7_numbers_19 : decode cX7_numbers 19 = .ok (.if_icmp .ge 32, 3) := dk_162 0 32 (dk_at dksX7_numbers_0 19 rfl rfl)
theorem dX7_numbers_22 : decode cX7_numbers 22 = .ok (.aload_n 0, 1) := dk_42 (dk_at dksX7_numbers_0 22 rfl rfl)
theorem dX7_numbers_23 : decode cX7_numbers 23 = .ok (.aload_n 1, 1) := dk_43 (dk_at dksX7_numbers_0 23 rfl rfl)
theorem dX7_numbers_24 : decode cX7_numbers 24 = .ok (.iload_n 2, 1) := dk_28 (dk_at dksX7_numbers_1 0 rfl rfl)
theorem dX7_numbers_25 : decode cX7_numbers 25 = .ok (.invokeinterface 49 2, 5) := by decide +kernel
theorem dX7_numbers_30 : decode cX7_numbers 30 = .ok (.invokevirtual 76, 3) := dk_182 0 76 (dk_at dksX7_numbers_1 6 rfl rfl)
theorem dX7_numbers_33 : decode cX7_numbers 33 = .ok (.aload_n 0, 1) := dk_42 (dk_at dksX7_numbers_1 9 rfl rfl)
theorem dX7_numbers_34 : decode cX7_numbers 34 = .ok (.getfield 35, 3) := dk_180 0 35 (dk_at dksX7_numbers_1 10 rfl rfl)
theorem dX7_numbers_37 : decode cX7_numbers 37 = .ok (.iload_n 2, 1) := dk_28 (dk_at dksX7_numbers_1 13 rfl rfl)
theorem dX7_numbers_38 : decode cX7_numbers 38 = .ok (.iconst 1, 1) := dk_4 (dk_at dksX7_numbers_1 14 rfl rfl)
theorem dX7_numbers_39 : decode cX7_numbers 39 = .ok (.iadd, 1) := dk_96 (dk_at dksX7_numbers_1 15 rfl rfl)
theorem dX7_numbers_40 : decode cX7_numbers 40 = .ok (.aload_n 0, 1) := dk_42 (dk_at dksX7_numbers_1 16 rfl rfl)
theorem dX7_numbers_41 : decode cX7_numbers 41 = .ok (.invokevirtual 73, 3) := dk_182 0 73 (dk_at dksX7_numbers_1 17 rfl rfl)
theorem dX7_numbers_44 : decode cX7_numbers 44 = .ok (.iastore, 1) := dk_79 (dk_at dksX7_numbers_1 20 rfl rfl)
theorem dX7_numbers_45 : decode cX7_numbers 45 = .ok (.iinc 2 1, 3) := dk_132 2 1 (dk_at dksX7_numbers_1 21 rfl rfl)
theorem dX7_numbers_48 : decode cX7_numbers 48 = .ok (.goto (-36), 3) := dk_167 255 220 (dk_at dksX7_numbers_2 0 rfl rfl)
theorem dX7_numbers_51 : decode cX7_numbers 51 = .ok (.aload_n 0, 1) := dk_42 (dk_at dksX7_numbers_2 3 rfl rfl)
theorem dX7_numbers_52 : decode cX7_numbers 52 = .ok (.bipush 59, 2) := dk_16 59 (dk_at dksX7_numbers_2 4 rfl rfl)
theorem dX7_numbers_54 : decode cX7_numbers 54 = .ok (.invokevirtual 76, 3) := dk_182 0 76 (dk_at dksX7_numbers_2 6 rfl rfl)
theorem dX7_numbers_57 : decode cX7_numbers 57 = .ok (.return_, 1) := dk_177 (dk_at dksX7_numbers_2 9 rfl rfl)
abbrev cX7_number : ByteArray := prog_5_method_4_code
def yX7_number : MethodName := ⟨RX7, "number", "()I"⟩
def dkwX7_number_3 : List UInt8 := [4, 96, 181, 0, 39, 132, 2, 1, 167, 255, 209, 27, 172]
abbrev dktX7_number_3 : List UInt8 := dkwX7_number_3 ++ []
def dkwX7_number_2 : List UInt8 := [104, 42, 180, 0, 19, 42, 180, 0, 39, 185, 0, 49, 2, 0, 96, 16, 48, 100, 60, 42, 89, 180, 0, 39]
abbrev dktX7_number_2 : List UInt8 := dkwX7_number_2 ++ dktX7_number_3
def dkwX7_number_1 : List UInt8 := [1, 183, 0, 66, 191, 3, 60, 3, 61, 28, 6, 162, 0, 48, 42, 182, 0, 69, 153, 0, 41, 16, 10, 27]
abbrev dktX7_number_1 : List UInt8 := dkwX7_number_1 ++ dktX7_number_2
def dkwX7_number_0 : List UInt8 := [42, 182, 0, 69, 154, 0, 25, 187, 0, 61, 89, 42, 180, 0, 63, 42, 180, 0, 39, 42, 180, 0, 63, 100]
abbrev dktX7_number_0 : List UInt8 := dkwX7_number_0 ++ dktX7_number_1
theorem dksX7_number_0 : cX7_number.data.toList.drop 0 = dktX7_number_0 := by decide +kernel
theorem dksX7_number_1 : cX7_number.data.toList.drop 24 = dktX7_number_1 := dk_seg dksX7_number_0 24 rfl rfl
theorem dksX7_number_2 : cX7_number.data.toList.drop 48 = dktX7_number_2 := dk_seg dksX7_number_1 24 rfl rfl
theorem dksX7_number_3 : cX7_number.data.toList.drop 72 = dktX7_number_3 := dk_seg dksX7_number_2 24 rfl rfl
theorem dX7_number_0 : decode cX7_number 0 = .ok (.aload_n 0, 1) := dk_42 (dk_at dksX7_number_0 0 rfl rfl)
theorem dX7_number_1 : decode cX7_number 1 = .ok (.invokevirtual 69, 3) := dk_182 0 69 (dk_at dksX7_number_0 1 rfl rfl)
theorem dX7_number_4 : decode cX7_number 4 = .ok (.ifCond .ne 25, 3) := dk_154 0 25 (dk_at dksX7_number_0 4 rfl rfl)
theorem dX7_number_7 : decode cX7_number 7 = .ok (.new 61, 3) := dk_187 0 61 (dk_at dksX7_number_0 7 rfl rfl)
theorem dX7_number_10 : decode cX7_number 10 = .ok (.dup, 1) := dk_89 (dk_at dksX7_number_0 10 rfl rfl)
theorem dX7_number_11 : decode cX7_number 11 = .ok (.aload_n 0, 1) := dk_42 (dk_at dksX7_number_0 11 rfl rfl)
theorem dX7_number_12 : decode cX7_number 12 = .ok (.getfield 63, 3) := dk_180 0 63 (dk_at dksX7_number_0 12 rfl rfl)
theorem dX7_number_15 : decode cX7_number 15 = .ok (.aload_n 0, 1) := dk_42 (dk_at dksX7_number_0 15 rfl rfl)
theorem dX7_number_16 : decode cX7_number 16 = .ok (.getfield 39, 3) := dk_180 0 39 (dk_at dksX7_number_0 16 rfl rfl)
theorem dX7_number_19 : decode cX7_number 19 = .ok (.aload_n 0, 1) := dk_42 (dk_at dksX7_number_0 19 rfl rfl)
theorem dX7_number_20 : decode cX7_number 20 = .ok (.getfield 63, 3) := dk_180 0 63 (dk_at dksX7_number_0 20 rfl rfl)
theorem dX7_number_23 : decode cX7_number 23 = .ok (.isub, 1) := dk_100 (dk_at dksX7_number_0 23 rfl rfl)
theorem dX7_number_24 : decode cX7_number 24 = .ok (.aconst_null, 1) := dk_1 (dk_at dksX7_number_1 0 rfl rfl)
theorem dX7_number_25 : decode cX7_number 25 = .ok (.invokespecial 66, 3) := dk_183 0 66 (dk_at dksX7_number_1 1 rfl rfl)
theorem dX7_number_28 : decode cX7_number 28 = .ok (.athrow, 1) := dk_191 (dk_at dksX7_number_1 4 rfl rfl)
theorem dX7_number_29 : decode cX7_number 29 = .ok (.iconst 0, 1) := dk_3 (dk_at dksX7_number_1 5 rfl rfl)
theorem dX7_number_30 : decode cX7_number 30 = .ok (.istore_n 1, 1) := dk_60 (dk_at dksX7_number_1 6 rfl rfl)
theorem dX7_number_31 : decode cX7_number 31 = .ok (.iconst 0, 1) := dk_3 (dk_at dksX7_number_1 7 rfl rfl)
theorem dX7_number_32 : decode cX7_number 32 = .ok (.istore_n 2, 1) := dk_61 (dk_at dksX7_number_1 8 rfl rfl)
theorem dX7_number_33 : decode cX7_number 33 = .ok (.iload_n 2, 1) := dk_28 (dk_at dksX7_number_1 9 rfl rfl)
theorem dX7_number_34 : decode cX7_number 34 = .ok (.iconst 3, 1) := dk_6 (dk_at dksX7_number_1 10 rfl rfl)
theorem dX7_number_35 : decode cX7_number 35 = .ok (.if_icmp .ge 48, 3) := dk_162 0 48 (dk_at dksX7_number_1 11 rfl rfl)
theorem dX7_number_38 : decode cX7_number 38 = .ok (.aload_n 0, 1) := dk_42 (dk_at dksX7_number_1 14 rfl rfl)
theorem dX7_number_39 : decode cX7_number 39 = .ok (.invokevirtual 69, 3) := dk_182 0 69 (dk_at dksX7_number_1 15 rfl rfl)
theorem dX7_number_42 : decode cX7_number 42 = .ok (.ifCond .eq 41, 3) := dk_153 0 41 (dk_at dksX7_number_1 18 rfl rfl)
theorem dX7_number_45 : decode cX7_number 45 = .ok (.bipush 10, 2) := dk_16 10 (dk_at dksX7_number_1 21 rfl rfl)
theorem dX7_number_47 : decode cX7_number 47 = .ok (.iload_n 1, 1) := dk_27 (dk_at dksX7_number_1 23 rfl rfl)
theorem dX7_number_48 : decode cX7_number 48 = .ok (.imul, 1) := dk_104 (dk_at dksX7_number_2 0 rfl rfl)
theorem dX7_number_49 : decode cX7_number 49 = .ok (.aload_n 0, 1) := dk_42 (dk_at dksX7_number_2 1 rfl rfl)
theorem dX7_number_50 : decode cX7_number 50 = .ok (.getfield 19, 3) := dk_180 0 19 (dk_at dksX7_number_2 2 rfl rfl)
theorem dX7_number_53 : decode cX7_number 53 = .ok (.aload_n 0, 1) := dk_42 (dk_at dksX7_number_2 5 rfl rfl)
theorem dX7_number_54 : decode cX7_number 54 = .ok (.getfield 39, 3) := dk_180 0 39 (dk_at dksX7_number_2 6 rfl rfl)
theorem dX7_number_57 : decode cX7_number 57 = .ok (.invokeinterface 49 2, 5) := by decide +kernel
theorem dX7_number_62 : decode cX7_number 62 = .ok (.iadd, 1) := dk_96 (dk_at dksX7_number_2 14 rfl rfl)
theorem dX7_number_63 : decode cX7_number 63 = .ok (.bipush 48, 2) := dk_16 48 (dk_at dksX7_number_2 15 rfl rfl)
theorem dX7_number_65 : decode cX7_number 65 = .ok (.isub, 1) := dk_100 (dk_at dksX7_number_2 17 rfl rfl)
theorem dX7_number_66 : decode cX7_number 66 = .ok (.istore_n 1, 1) := dk_60 (dk_at dksX7_number_2 18 rfl rfl)
theorem dX7_number_67 : decode cX7_number 67 = .ok (.aload_n 0, 1) := dk_42 (dk_at dksX7_number_2 19 rfl rfl)
theorem dX7_number_68 : decode cX7_number 68 = .ok (.dup, 1) := dk_89 (dk_at dksX7_number_2 20 rfl rfl)
theorem dX7_number_69 : decode cX7_number 69 = .ok (.getfield 39, 3) := dk_180 0 39 (dk_at dksX7_number_2 21 rfl rfl)
theorem dX7_number_72 : decode cX7_number 72 = .ok (.iconst 1, 1) := dk_4 (dk_at dksX7_number_3 0 rfl rfl)
theorem dX7_number_73 : decode cX7_number 73 = .ok (.iadd, 1) := dk_96 (dk_at dksX7_number_3 1 rfl rfl)
theorem dX7_number_74 : decode cX7_number 74 = .ok (.putfield 39, 3) := dk_181 0 39 (dk_at dksX7_number_3 2 rfl rfl)
theorem dX7_number_77 : decode cX7_number 77 = .ok (.iinc 2 1, 3) := dk_132 2 1 (dk_at dksX7_number_3 5 rfl rfl)
theorem dX7_number_80 : decode cX7_number 80 = .ok (.goto (-47), 3) := dk_167 255 209 (dk_at dksX7_number_3 8 rfl rfl)
theorem dX7_number_83 : decode cX7_number 83 = .ok (.iload_n 1, 1) := dk_27 (dk_at dksX7_number_3 11 rfl rfl)
theorem dX7_number_84 : decode cX7_number 84 = .ok (.ireturn, 1) := dk_172 (dk_at dksX7_number_3 12 rfl rfl)
abbrev cX7_isDigit : ByteArray := prog_5_method_2_code
def yX7_isDigit : MethodName := ⟨RX7, "isDigit", "()Z"⟩
def dkwX7_isDigit_1 : List UInt8 := [185, 0, 49, 2, 0, 133, 20, 0, 53, 20, 0, 55, 184, 0, 57, 153, 0, 7, 4, 167, 0, 4, 3, 172]
abbrev dktX7_isDigit_1 : List UInt8 := dkwX7_isDigit_1 ++ []
def dkwX7_isDigit_0 : List UInt8 := [42, 180, 0, 39, 42, 180, 0, 19, 185, 0, 43, 1, 0, 162, 0, 33, 42, 180, 0, 19, 42, 180, 0, 39]
abbrev dktX7_isDigit_0 : List UInt8 := dkwX7_isDigit_0 ++ dktX7_isDigit_1
theorem dksX7_isDigit_0 : cX7_isDigit.data.toList.drop 0 = dktX7_isDigit_0 := by decide +kernel
theorem dksX7_isDigit_1 : cX7_isDigit.data.toList.drop 24 = dktX7_isDigit_1 := dk_seg dksX7_isDigit_0 24 rfl rfl
theorem dX7_isDigit_0 : decode cX7_isDigit 0 = .ok (.aload_n 0, 1) := dk_42 (dk_at dksX7_isDigit_0 0 rfl rfl)
theorem dX7_isDigit_1 : decode cX7_isDigit 1 = .ok (.getfield 39, 3) := dk_180 0 39 (dk_at dksX7_isDigit_0 1 rfl rfl)
theorem dX7_isDigit_4 : decode cX7_isDigit 4 = .ok (.aload_n 0, 1) := dk_42 (dk_at dksX7_isDigit_0 4 rfl rfl)
theorem dX7_isDigit_5 : decode cX7_isDigit 5 = .ok (.getfield 19, 3) := dk_180 0 19 (dk_at dksX7_isDigit_0 5 rfl rfl)
theorem dX7_isDigit_8 : decode cX7_isDigit 8 = .ok (.invokeinterface 43 1, 5) := by decide +kernel
theorem dX7_isDigit_13 : decode cX7_isDigit 13 = .ok (.if_icmp .ge 33, 3) := dk_162 0 33 (dk_at dksX7_isDigit_0 13 rfl rfl)
theorem dX7_isDigit_16 : decode cX7_isDigit 16 = .ok (.aload_n 0, 1) := dk_42 (dk_at dksX7_isDigit_0 16 rfl rfl)
theorem dX7_isDigit_17 : decode cX7_isDigit 17 = .ok (.getfield 19, 3) := dk_180 0 19 (dk_at dksX7_isDigit_0 17 rfl rfl)
theorem dX7_isDigit_20 : decode cX7_isDigit 20 = .ok (.aload_n 0, 1) := dk_42 (dk_at dksX7_isDigit_0 20 rfl rfl)
theorem dX7_isDigit_21 : decode cX7_isDigit 21 = .ok (.getfield 39, 3) := dk_180 0 39 (dk_at dksX7_isDigit_0 21 rfl rfl)
theorem dX7_isDigit_24 : decode cX7_isDigit 24 = .ok (.invokeinterface 49 2, 5) := by decide +kernel
theorem dX7_isDigit_29 : decode cX7_isDigit 29 = .ok (.i2l, 1) := dk_133 (dk_at dksX7_isDigit_1 5 rfl rfl)
theorem dX7_isDigit_30 : decode cX7_isDigit 30 = .ok (.ldc2_w 53, 3) := dk_20 0 53 (dk_at dksX7_isDigit_1 6 rfl rfl)
theorem dX7_isDigit_33 : decode cX7_isDigit 33 = .ok (.ldc2_w 55, 3) := dk_20 0 55 (dk_at dksX7_isDigit_1 9 rfl rfl)
theorem dX7_isDigit_36 : decode cX7_isDigit 36 = .ok (.invokestatic 57, 3) := dk_184 0 57 (dk_at dksX7_isDigit_1 12 rfl rfl)
theorem dX7_isDigit_39 : decode cX7_isDigit 39 = .ok (.ifCond .eq 7, 3) := dk_153 0 7 (dk_at dksX7_isDigit_1 15 rfl rfl)
theorem dX7_isDigit_42 : decode cX7_isDigit 42 = .ok (.iconst 1, 1) := dk_4 (dk_at dksX7_isDigit_1 18 rfl rfl)
theorem dX7_isDigit_43 : decode cX7_isDigit 43 = .ok (.goto 4, 3) := dk_167 0 4 (dk_at dksX7_isDigit_1 19 rfl rfl)
theorem dX7_isDigit_46 : decode cX7_isDigit 46 = .ok (.iconst 0, 1) := dk_3 (dk_at dksX7_isDigit_1 22 rfl rfl)
theorem dX7_isDigit_47 : decode cX7_isDigit 47 = .ok (.ireturn, 1) := dk_172 (dk_at dksX7_isDigit_1 23 rfl rfl)
abbrev cX7_expect : ByteArray := prog_5_method_3_code
def yX7_expect : MethodName := ⟨RX7, "expect", "(C)V"⟩
def dkwX7_expect_2 : List UInt8 := [180, 0, 63, 100, 1, 183, 0, 66, 191, 42, 89, 180, 0, 39, 4, 96, 181, 0, 39, 177]
abbrev dktX7_expect_2 : List UInt8 := dkwX7_expect_2 ++ []
def dkwX7_expect_1 : List UInt8 := [185, 0, 49, 2, 0, 27, 159, 0, 25, 187, 0, 61, 89, 42, 180, 0, 63, 42, 180, 0, 39, 42]
abbrev dktX7_expect_1 : List UInt8 := dkwX7_expect_1 ++ dktX7_expect_2
def dkwX7_expect_0 : List UInt8 := [42, 180, 0, 39, 42, 180, 0, 19, 185, 0, 43, 1, 0, 159, 0, 20, 42, 180, 0, 19, 42, 180, 0, 39]
abbrev dktX7_expect_0 : List UInt8 := dkwX7_expect_0 ++ dktX7_expect_1
theorem dksX7_expect_0 : cX7_expect.data.toList.drop 0 = dktX7_expect_0 := by decide +kernel
theorem dksX7_expect_1 : cX7_expect.data.toList.drop 24 = dktX7_expect_1 := dk_seg dksX7_expect_0 24 rfl rfl
theorem dksX7_expect_2 : cX7_expect.data.toList.drop 46 = dktX7_expect_2 := dk_seg dksX7_expect_1 22 rfl rfl
theorem dX7_expect_0 : decode cX7_expect 0 = .ok (.aload_n 0, 1) := dk_42 (dk_at dksX7_expect_0 0 rfl rfl)
theorem dX7_expect_1 : decode cX7_expect 1 = .ok (.getfield 39, 3) := dk_180 0 39 (dk_at dksX7_expect_0 1 rfl rfl)
theorem dX7_expect_4 : decode cX7_expect 4 = .ok (.aload_n 0, 1) := dk_42 (dk_at dksX7_expect_0 4 rfl rfl)
theorem dX7_expect_5 : decode cX7_expect 5 = .ok (.getfield 19, 3) := dk_180 0 19 (dk_at dksX7_expect_0 5 rfl rfl)
theorem dX7_expect_8 : decode cX7_expect 8 = .ok (.invokeinterface 43 1, 5) := by decide +kernel
theorem dX7_expect_13 : decode cX7_expect 13 = .ok (.if_icmp .eq 20, 3) := dk_159 0 20 (dk_at dksX7_expect_0 13 rfl rfl)
theorem dX7_expect_16 : decode cX7_expect 16 = .ok (.aload_n 0, 1) := dk_42 (dk_at dksX7_expect_0 16 rfl rfl)
theorem dX7_expect_17 : decode cX7_expect 17 = .ok (.getfield 19, 3) := dk_180 0 19 (dk_at dksX7_expect_0 17 rfl rfl)
theorem dX7_expect_20 : decode cX7_expect 20 = .ok (.aload_n 0, 1) := dk_42 (dk_at dksX7_expect_0 20 rfl rfl)
theorem dX7_expect_21 : decode cX7_expect 21 = .ok (.getfield 39, 3) := dk_180 0 39 (dk_at dksX7_expect_0 21 rfl rfl)
theorem dX7_expect_24 : decode cX7_expect 24 = .ok (.invokeinterface 49 2, 5) := by decide +kernel
theorem dX7_expect_29 : decode cX7_expect 29 = .ok (.iload_n 1, 1) := dk_27 (dk_at dksX7_expect_1 5 rfl rfl)
theorem dX7_expect_30 : decode cX7_expect 30 = .ok (.if_icmp .eq 25, 3) := dk_159 0 25 (dk_at dksX7_expect_1 6 rfl rfl)
theorem dX7_expect_33 : decode cX7_expect 33 = .ok (.new 61, 3) := dk_187 0 61 (dk_at dksX7_expect_1 9 rfl rfl)
theorem dX7_expect_36 : decode cX7_expect 36 = .ok (.dup, 1) := dk_89 (dk_at dksX7_expect_1 12 rfl rfl)
theorem dX7_expect_37 : decode cX7_expect 37 = .ok (.aload_n 0, 1) := dk_42 (dk_at dksX7_expect_1 13 rfl rfl)
theorem dX7_expect_38 : decode cX7_expect 38 = .ok (.getfield 63, 3) := dk_180 0 63 (dk_at dksX7_expect_1 14 rfl rfl)
theorem dX7_expect_41 : decode cX7_expect 41 = .ok (.aload_n 0, 1) := dk_42 (dk_at dksX7_expect_1 17 rfl rfl)
theorem dX7_expect_42 : decode cX7_expect 42 = .ok (.getfield 39, 3) := dk_180 0 39 (dk_at dksX7_expect_1 18 rfl rfl)
theorem dX7_expect_45 : decode cX7_expect 45 = .ok (.aload_n 0, 1) := dk_42 (dk_at dksX7_expect_1 21 rfl rfl)
theorem dX7_expect_46 : decode cX7_expect 46 = .ok (.getfield 63, 3) := dk_180 0 63 (dk_at dksX7_expect_2 0 rfl rfl)
theorem dX7_expect_49 : decode cX7_expect 49 = .ok (.isub, 1) := dk_100 (dk_at dksX7_expect_2 3 rfl rfl)
theorem dX7_expect_50 : decode cX7_expect 50 = .ok (.aconst_null, 1) := dk_1 (dk_at dksX7_expect_2 4 rfl rfl)
theorem dX7_expect_51 : decode cX7_expect 51 = .ok (.invokespecial 66, 3) := dk_183 0 66 (dk_at dksX7_expect_2 5 rfl rfl)
theorem dX7_expect_54 : decode cX7_expect 54 = .ok (.athrow, 1) := dk_191 (dk_at dksX7_expect_2 8 rfl rfl)
theorem dX7_expect_55 : decode cX7_expect 55 = .ok (.aload_n 0, 1) := dk_42 (dk_at dksX7_expect_2 9 rfl rfl)
theorem dX7_expect_56 : decode cX7_expect 56 = .ok (.dup, 1) := dk_89 (dk_at dksX7_expect_2 10 rfl rfl)
theorem dX7_expect_57 : decode cX7_expect 57 = .ok (.getfield 39, 3) := dk_180 0 39 (dk_at dksX7_expect_2 11 rfl rfl)
theorem dX7_expect_60 : decode cX7_expect 60 = .ok (.iconst 1, 1) := dk_4 (dk_at dksX7_expect_2 14 rfl rfl)
theorem dX7_expect_61 : decode cX7_expect 61 = .ok (.iadd, 1) := dk_96 (dk_at dksX7_expect_2 15 rfl rfl)
theorem dX7_expect_62 : decode cX7_expect 62 = .ok (.putfield 39, 3) := dk_181 0 39 (dk_at dksX7_expect_2 16 rfl rfl)
theorem dX7_expect_65 : decode cX7_expect 65 = .ok (.return_, 1) := dk_177 (dk_at dksX7_expect_2 19 rfl rfl)
theorem q84 : (Jvm.Cond.initialized "FencedStandbys$Reader") ∈ lw_all := lw_g (lw_at lw_m1 31 rfl) rfl
theorem q283 : (Jvm.Cond.fieldLinkNest "FencedStandbys$Reader" (25 : Nat) "FencedStandbys" "store" "LFencedStandbys$Store;" "FencedStandbys") ∈ lw_tbl := lw_at lw_m1 230 rfl
theorem q286 : (Jvm.Cond.fieldLinkNest "FencedStandbys$Reader" (13 : Nat) "FencedStandbys" "text" "Ljava/lang/StringBuilder;" "FencedStandbys") ∈ lw_tbl := lw_at lw_m1 233 rfl
theorem q393 : (Jvm.Cond.selects "FencedStandbys$Reader" ({ cls := "java/lang/Object", name := "getClass", desc := "()Ljava/lang/Class;" } : Jvm.MethodName) ({ cls := "java/lang/Object", name := "getClass", desc := "()Ljava/lang/Class;" } : Jvm.MethodName)) ∈ lw_all := lw_g (lw_at lw_m2 100 rfl) rfl
theorem q1172 : (Jvm.Cond.instantiable "FencedStandbys$Reader" (7 : Nat)) ∈ lw_all := lw_g (lw_at lw_m5 159 rfl) rfl
theorem q1174 : (Jvm.Cond.instanceMethod ({ cls := "FencedStandbys$Reader", name := "<init>", desc := "(LFencedStandbys;)V" } : Jvm.MethodName)) ∈ lw_all := lw_g (lw_at lw_m5 161 rfl) rfl
theorem q1175 : (Jvm.Cond.code ({ cls := "FencedStandbys$Reader", name := "<init>", desc := "(LFencedStandbys;)V" } : Jvm.MethodName) prog_5_method_1_code (2 : Nat) (Option.none : Option Jvm.ClassFile.FieldType)) ∈ lw_all := lw_g (lw_at lw_m5 162 rfl) rfl
theorem q1176 : (Jvm.Cond.methodLink "FencedStandbys$Reader" (7 : Nat) ({ cls := "java/lang/Object", name := "<init>", desc := "()V" } : Jvm.MethodName)) ∈ lw_all := lw_g (lw_at lw_m5 163 rfl) rfl
theorem q1177 : (Jvm.Cond.classLink "FencedStandbys$Reader" (23 : Nat) "FencedStandbys$Store") ∈ lw_all := lw_g (lw_at lw_m5 164 rfl) rfl
theorem q1178 : (Jvm.Cond.methodLink "FencedStandbys$Reader" (29 : Nat) ({ cls := "FencedStandbys$Store", name := "<init>", desc := "(LFencedStandbys$Store;)V" } : Jvm.MethodName)) ∈ lw_all := lw_g (lw_at lw_m5 165 rfl) rfl
theorem q1179 : (Jvm.Cond.fieldLink "FencedStandbys$Reader" (19 : Nat) "FencedStandbys$Reader" "read" "Ljava/lang/CharSequence;") ∈ lw_all := lw_g (lw_at lw_m5 166 rfl) rfl
theorem q1180 : (Jvm.Cond.fieldLink "FencedStandbys$Reader" (32 : Nat) "FencedStandbys$Reader" "trial" "LFencedStandbys$Store;") ∈ lw_all := lw_g (lw_at lw_m5 167 rfl) rfl
theorem q1182 : (Jvm.Cond.fieldLink "FencedStandbys$Reader" (35 : Nat) "FencedStandbys$Reader" "numbers" "[I") ∈ lw_all := lw_g (lw_at lw_m5 169 rfl) rfl
theorem q1183 : (Jvm.Cond.fieldLink "FencedStandbys$Reader" (39 : Nat) "FencedStandbys$Reader" "at" "I") ∈ lw_all := lw_g (lw_at lw_m5 170 rfl) rfl
theorem q1184 : (Jvm.Cond.fieldLink "FencedStandbys$Reader" (63 : Nat) "FencedStandbys$Reader" "begins" "I") ∈ lw_all := lw_g (lw_at lw_m5 171 rfl) rfl
theorem q1185 : (Jvm.Cond.fieldLink "FencedStandbys$Reader" (101 : Nat) "FencedStandbys$Reader" "many" "I") ∈ lw_all := lw_g (lw_at lw_m5 172 rfl) rfl
theorem q1187 : (Jvm.Cond.fieldLink "FencedStandbys$Reader" (1 : Nat) "FencedStandbys$Reader" "this$0" "LFencedStandbys;") ∈ lw_all := lw_g (lw_at lw_m5 174 rfl) rfl
theorem q1188 : (Jvm.Cond.laysFinal "FencedStandbys$Reader" "FencedStandbys$Reader" "read" "Ljava/lang/CharSequence;") ∈ lw_all := lw_g (lw_at lw_m5 175 rfl) rfl
theorem q1189 : (Jvm.Cond.soleField "FencedStandbys$Reader" "read") ∈ lw_all := lw_g (lw_at lw_m5 176 rfl) rfl
theorem q1190 : (Jvm.Cond.laysFinal "FencedStandbys$Reader" "FencedStandbys$Reader" "trial" "LFencedStandbys$Store;") ∈ lw_all := lw_g (lw_at lw_m5 177 rfl) rfl
theorem q1191 : (Jvm.Cond.soleField "FencedStandbys$Reader" "trial") ∈ lw_all := lw_g (lw_at lw_m5 178 rfl) rfl
theorem q1192 : (Jvm.Cond.laysFinal "FencedStandbys$Reader" "FencedStandbys$Reader" "numbers" "[I") ∈ lw_all := lw_g (lw_at lw_m5 179 rfl) rfl
theorem q1193 : (Jvm.Cond.soleField "FencedStandbys$Reader" "numbers") ∈ lw_all := lw_g (lw_at lw_m5 180 rfl) rfl
theorem q1194 : (Jvm.Cond.lays "FencedStandbys$Reader" "FencedStandbys$Reader" "at" "I") ∈ lw_all := lw_g (lw_at lw_m5 181 rfl) rfl
theorem q1195 : (Jvm.Cond.soleField "FencedStandbys$Reader" "at") ∈ lw_all := lw_g (lw_at lw_m5 182 rfl) rfl
theorem q1196 : (Jvm.Cond.lays "FencedStandbys$Reader" "FencedStandbys$Reader" "begins" "I") ∈ lw_all := lw_g (lw_at lw_m5 183 rfl) rfl
theorem q1197 : (Jvm.Cond.soleField "FencedStandbys$Reader" "begins") ∈ lw_all := lw_g (lw_at lw_m5 184 rfl) rfl
theorem q1198 : (Jvm.Cond.lays "FencedStandbys$Reader" "FencedStandbys$Reader" "many" "I") ∈ lw_all := lw_g (lw_at lw_m5 185 rfl) rfl
theorem q1199 : (Jvm.Cond.soleField "FencedStandbys$Reader" "many") ∈ lw_all := lw_g (lw_at lw_m5 186 rfl) rfl
theorem q1200 : (Jvm.Cond.laysFinal "FencedStandbys$Reader" "FencedStandbys$Reader" "this$0" "LFencedStandbys;") ∈ lw_all := lw_g (lw_at lw_m5 187 rfl) rfl
theorem q1201 : (Jvm.Cond.soleField "FencedStandbys$Reader" "this$0") ∈ lw_all := lw_g (lw_at lw_m5 188 rfl) rfl
theorem q1202 : (Jvm.Cond.superclass "FencedStandbys$Reader" "java/lang/Object") ∈ lw_all := lw_g (lw_at lw_m5 189 rfl) rfl
theorem q1204 : (Jvm.Cond.instanceMethod ({ cls := "FencedStandbys$Reader", name := "all", desc := "()V" } : Jvm.MethodName)) ∈ lw_all := lw_g (lw_at lw_m5 191 rfl) rfl
theorem q1205 : (Jvm.Cond.selects "FencedStandbys$Reader" ({ cls := "FencedStandbys$Reader", name := "all", desc := "()V" } : Jvm.MethodName) ({ cls := "FencedStandbys$Reader", name := "all", desc := "()V" } : Jvm.MethodName)) ∈ lw_all := lw_g (lw_at lw_m5 192 rfl) rfl
theorem q1206 : (Jvm.Cond.code ({ cls := "FencedStandbys$Reader", name := "all", desc := "()V" } : Jvm.MethodName) prog_5_method_7_code (1 : Nat) (Option.none : Option Jvm.ClassFile.FieldType)) ∈ lw_all := lw_g (lw_at lw_m5 193 rfl) rfl
theorem q1207 : (Jvm.Cond.interfaceEntry "FencedStandbys$Reader" (43 : Nat)) ∈ lw_tbl := lw_at lw_m5 194 rfl
theorem q1208 : (Jvm.Cond.methodLink "FencedStandbys$Reader" (43 : Nat) ({ cls := "java/lang/CharSequence", name := "length", desc := "()I" } : Jvm.MethodName)) ∈ lw_all := lw_g (lw_at lw_m5 195 rfl) rfl
theorem q1219 : (Jvm.Cond.methodLink "FencedStandbys$Reader" (106 : Nat) ({ cls := "FencedStandbys$Reader", name := "one", desc := "()V" } : Jvm.MethodName)) ∈ lw_all := lw_g (lw_at lw_m5 206 rfl) rfl
theorem q1220 : (Jvm.Cond.privateMethod ({ cls := "FencedStandbys$Reader", name := "one", desc := "()V" } : Jvm.MethodName)) ∈ lw_tbl := lw_at lw_m5 207 rfl
theorem q1221 : (Jvm.Cond.instanceMethod ({ cls := "FencedStandbys$Reader", name := "one", desc := "()V" } : Jvm.MethodName)) ∈ lw_all := lw_g (lw_at lw_m5 208 rfl) rfl
theorem q1222 : (Jvm.Cond.codeWith ({ cls := "FencedStandbys$Reader", name := "one", desc := "()V" } : Jvm.MethodName) prog_5_method_6_code (3 : Nat) (Option.none : Option Jvm.ClassFile.FieldType) [((75 : Nat), (98 : Nat), (101 : Nat), (104 : Nat))]) ∈ lw_all := lw_g (lw_at lw_m5 209 rfl) rfl
theorem q1223 : (Jvm.Cond.classLink "FencedStandbys$Reader" (104 : Nat) "FencedStandbys$Refused") ∈ lw_all := lw_g (lw_at lw_m5 210 rfl) rfl
theorem q1224 : (Jvm.Cond.interfaceEntry "FencedStandbys$Reader" (49 : Nat)) ∈ lw_tbl := lw_at lw_m5 211 rfl
theorem q1225 : (Jvm.Cond.methodLink "FencedStandbys$Reader" (49 : Nat) ({ cls := "java/lang/CharSequence", name := "charAt", desc := "(I)C" } : Jvm.MethodName)) ∈ lw_all := lw_g (lw_at lw_m5 212 rfl) rfl
theorem q1251 : (Jvm.Cond.stringRef "FencedStandbys$Reader" (80 : Nat) "ocapst") ∈ lw_tbl := lw_at lw_m5 238 rfl
theorem q1252 : (Jvm.Cond.methodLink "FencedStandbys$Reader" (82 : Nat) ({ cls := "java/lang/String", name := "indexOf", desc := "(I)I" } : Jvm.MethodName)) ∈ lw_all := lw_g (lw_at lw_m5 239 rfl) rfl
theorem q1253 : (Jvm.Cond.classLink "FencedStandbys$Reader" (61 : Nat) "FencedStandbys$Fault") ∈ lw_all := lw_g (lw_at lw_m6 0 rfl) rfl
theorem q1262 : (Jvm.Cond.methodLink "FencedStandbys$Reader" (66 : Nat) ({ cls := "FencedStandbys$Fault", name := "<init>", desc := "(IILFencedStandbys$Refused;)V" } : Jvm.MethodName)) ∈ lw_all := lw_g (lw_at lw_m6 9 rfl) rfl
theorem q1281 : (Jvm.Cond.stringRef "FencedStandbys$Reader" (88 : Nat) ",=") ∈ lw_tbl := lw_at lw_m6 28 rfl
theorem q1282 : (Jvm.Cond.stringRef "FencedStandbys$Reader" (90 : Nat) ",") ∈ lw_tbl := lw_at lw_m6 29 rfl
theorem q1283 : (Jvm.Cond.stringRef "FencedStandbys$Reader" (92 : Nat) "") ∈ lw_tbl := lw_at lw_m6 30 rfl
theorem q1284 : (Jvm.Cond.methodLink "FencedStandbys$Reader" (94 : Nat) ({ cls := "FencedStandbys$Reader", name := "numbers", desc := "(Ljava/lang/CharSequence;)V" } : Jvm.MethodName)) ∈ lw_all := lw_g (lw_at lw_m6 31 rfl) rfl
theorem q1285 : (Jvm.Cond.privateMethod ({ cls := "FencedStandbys$Reader", name := "numbers", desc := "(Ljava/lang/CharSequence;)V" } : Jvm.MethodName)) ∈ lw_tbl := lw_at lw_m6 32 rfl
theorem q1286 : (Jvm.Cond.instanceMethod ({ cls := "FencedStandbys$Reader", name := "numbers", desc := "(Ljava/lang/CharSequence;)V" } : Jvm.MethodName)) ∈ lw_all := lw_g (lw_at lw_m6 33 rfl) rfl
theorem q1287 : (Jvm.Cond.code ({ cls := "FencedStandbys$Reader", name := "numbers", desc := "(Ljava/lang/CharSequence;)V" } : Jvm.MethodName) prog_5_method_5_code (3 : Nat) (Option.none : Option Jvm.ClassFile.FieldType)) ∈ lw_all := lw_g (lw_at lw_m6 34 rfl) rfl
theorem q1288 : (Jvm.Cond.methodLink "FencedStandbys$Reader" (73 : Nat) ({ cls := "FencedStandbys$Reader", name := "number", desc := "()I" } : Jvm.MethodName)) ∈ lw_all := lw_g (lw_at lw_m6 35 rfl) rfl
theorem q1289 : (Jvm.Cond.privateMethod ({ cls := "FencedStandbys$Reader", name := "number", desc := "()I" } : Jvm.MethodName)) ∈ lw_tbl := lw_at lw_m6 36 rfl
theorem q1290 : (Jvm.Cond.instanceMethod ({ cls := "FencedStandbys$Reader", name := "number", desc := "()I" } : Jvm.MethodName)) ∈ lw_all := lw_g (lw_at lw_m6 37 rfl) rfl
theorem q1291 : (Jvm.Cond.code ({ cls := "FencedStandbys$Reader", name := "number", desc := "()I" } : Jvm.MethodName) prog_5_method_4_code (3 : Nat) (Option.some Jvm.ClassFile.FieldType.int)) ∈ lw_all := lw_g (lw_at lw_m6 38 rfl) rfl
theorem q1292 : (Jvm.Cond.methodLink "FencedStandbys$Reader" (69 : Nat) ({ cls := "FencedStandbys$Reader", name := "isDigit", desc := "()Z" } : Jvm.MethodName)) ∈ lw_all := lw_g (lw_at lw_m6 39 rfl) rfl
theorem q1293 : (Jvm.Cond.privateMethod ({ cls := "FencedStandbys$Reader", name := "isDigit", desc := "()Z" } : Jvm.MethodName)) ∈ lw_tbl := lw_at lw_m6 40 rfl
theorem q1294 : (Jvm.Cond.instanceMethod ({ cls := "FencedStandbys$Reader", name := "isDigit", desc := "()Z" } : Jvm.MethodName)) ∈ lw_all := lw_g (lw_at lw_m6 41 rfl) rfl
theorem q1295 : (Jvm.Cond.code ({ cls := "FencedStandbys$Reader", name := "isDigit", desc := "()Z" } : Jvm.MethodName) prog_5_method_2_code (1 : Nat) (Option.some Jvm.ClassFile.FieldType.boolean)) ∈ lw_all := lw_g (lw_at lw_m6 42 rfl) rfl
theorem q1296 : (Jvm.Cond.constantLong "FencedStandbys$Reader" (53 : Nat) (48 : Int64)) ∈ lw_all := lw_g (lw_at lw_m6 43 rfl) rfl
theorem q1297 : (Jvm.Cond.constantLong "FencedStandbys$Reader" (55 : Nat) (57 : Int64)) ∈ lw_all := lw_g (lw_at lw_m6 44 rfl) rfl
theorem q1298 : (Jvm.Cond.methodLinkNest "FencedStandbys$Reader" (57 : Nat) ({ cls := "FencedStandbys", name := "isBetween", desc := "(JJJ)Z" } : Jvm.MethodName) "FencedStandbys") ∈ lw_tbl := lw_at lw_m6 45 rfl
theorem q1299 : (Jvm.Cond.methodLink "FencedStandbys$Reader" (76 : Nat) ({ cls := "FencedStandbys$Reader", name := "expect", desc := "(C)V" } : Jvm.MethodName)) ∈ lw_all := lw_g (lw_at lw_m6 46 rfl) rfl
theorem q1300 : (Jvm.Cond.privateMethod ({ cls := "FencedStandbys$Reader", name := "expect", desc := "(C)V" } : Jvm.MethodName)) ∈ lw_tbl := lw_at lw_m6 47 rfl
theorem q1301 : (Jvm.Cond.instanceMethod ({ cls := "FencedStandbys$Reader", name := "expect", desc := "(C)V" } : Jvm.MethodName)) ∈ lw_all := lw_g (lw_at lw_m6 48 rfl) rfl
theorem q1302 : (Jvm.Cond.code ({ cls := "FencedStandbys$Reader", name := "expect", desc := "(C)V" } : Jvm.MethodName) prog_5_method_3_code (2 : Nat) (Option.none : Option Jvm.ClassFile.FieldType)) ∈ lw_all := lw_g (lw_at lw_m6 49 rfl) rfl
theorem q1303 : (Jvm.Cond.methodLinkNest "FencedStandbys$Reader" (97 : Nat) ({ cls := "FencedStandbys", name := "done", desc := "(LFencedStandbys$Store;C[I)I" } : Jvm.MethodName) "FencedStandbys") ∈ lw_tbl := lw_at lw_m6 50 rfl
theorem q1631 : (Jvm.Cond.castable "FencedStandbys$Reader" "java/lang/Object") ∈ lw_tbl := lw_at lw_m7 138 rfl
theorem in_X7 : ∀ w ∈ wsX70, w ∈ lw_all := lw_in wsX70 [1188, 1190, 1192, 1194, 1196, 1198, 1200] (by decide +kernel) (by decide +kernel)

/-! FencedStandbys$Fault -/
set_option maxRecDepth 100000
def RX8 : String := "FencedStandbys$Fault"
def TX8 : u_T := fun k => match k with
  | 0 => ("java/lang/Throwable", "cause", "Ljava/lang/Throwable;", false)
  | 1 => ("java/lang/Throwable", "stackTrace", "[Ljava/lang/StackTraceElement;", false)
  | 2 => ("java/lang/Throwable", "suppressedExceptions", "Ljava/util/List;", false)
  | 3 => ("java/lang/Throwable", "detailMessage", "Ljava/lang/String;", false)
  | 4 => ("java/lang/Throwable", "backtrace", "Ljava/lang/Object;", false)
  | 5 => ("java/lang/Throwable", "depth", "I", false)
  | 6 => ("FencedStandbys$Fault", "begins", "I", true)
  | _ => ("FencedStandbys$Fault", "place", "I", true)
def tyX8 : Nat → FieldType := fun k => match k with
  | 0 => .object "java/lang/Throwable"
  | 1 => .array (.object "java/lang/StackTraceElement")
  | 2 => .object "java/util/List"
  | 3 => .object "java/lang/String"
  | 4 => .object "java/lang/Object"
  | 5 => .int
  | 6 => .int
  | _ => .int
abbrev wsX80 : List Cond := u_ws RX8 TX8 8
theorem nmX8 : ∀ a, a < 8 → ∀ b, b < 8 → a ≠ b → (TX8 a).2.1 ≠ (TX8 b).2.1 := by decide +kernel
theorem tyX8_ok : ∀ k, k < 8 → parseFieldDescriptor (TX8 k).2.2.1 = some (tyX8 k) := by decide +kernel
abbrev cX8_init : ByteArray := prog_2_method_1_code
def yX8_init : MethodName := ⟨RX8, "<init>", "(IILFencedStandbys$Refused;)V"⟩
def dkwX8_init_0 : List UInt8 := [42, 18, 3, 45, 183, 0, 5, 42, 27, 181, 0, 11, 42, 28, 181, 0, 17, 177]
abbrev dktX8_init_0 : List UInt8 := dkwX8_init_0 ++ []
theorem dksX8_init_0 : cX8_init.data.toList.drop 0 = dktX8_init_0 := by decide +kernel
theorem dX8_init_0 : decode cX8_init 0 = .ok (.aload_n 0, 1) := dk_42 (dk_at dksX8_init_0 0 rfl rfl)
theorem dX8_init_1 : decode cX8_init 1 = .ok (.ldc 3, 2) := dk_18 3 (dk_at dksX8_init_0 1 rfl rfl)
theorem dX8_init_3 : decode cX8_init 3 = .ok (.aload_n 3, 1) := dk_45 (dk_at dksX8_init_0 3 rfl rfl)
theorem dX8_init_4 : decode cX8_init 4 = .ok (.invokespecial 5, 3) := dk_183 0 5 (dk_at dksX8_init_0 4 rfl rfl)
theorem dX8_init_7 : decode cX8_init 7 = .ok (.aload_n 0, 1) := dk_42 (dk_at dksX8_init_0 7 rfl rfl)
theorem dX8_init_8 : decode cX8_init 8 = .ok (.iload_n 1, 1) := dk_27 (dk_at dksX8_init_0 8 rfl rfl)
theorem dX8_init_9 : decode cX8_init 9 = .ok (.putfield 11, 3) := dk_181 0 11 (dk_at dksX8_init_0 9 rfl rfl)
theorem dX8_init_12 : decode cX8_init 12 = .ok (.aload_n 0, 1) := dk_42 (dk_at dksX8_init_0 12 rfl rfl)
theorem dX8_init_13 : decode cX8_init 13 = .ok (.iload_n 2, 1) := dk_28 (dk_at dksX8_init_0 13 rfl rfl)
theorem dX8_init_14 : decode cX8_init 14 = .ok (.putfield 17, 3) := dk_181 0 17 (dk_at dksX8_init_0 14 rfl rfl)
theorem dX8_init_17 : decode cX8_init 17 = .ok (.return_, 1) := dk_177 (dk_at dksX8_init_0 17 rfl rfl)
abbrev cX8_reason : ByteArray := prog_2_method_2_code
def yX8_reason : MethodName := ⟨RX8, "reason", "()I"⟩
def dkwX8_reason_0 : List UInt8 := [42, 182, 0, 20, 199, 0, 7, 4, 167, 0, 4, 5, 172]
abbrev dktX8_reason_0 : List UInt8 := dkwX8_reason_0 ++ []
theorem dksX8_reason_0 : cX8_reason.data.toList.drop 0 = dktX8_reason_0 := by decide +kernel
theorem dX8_reason_0 : decode cX8_reason 0 = .ok (.aload_n 0, 1) := dk_42 (dk_at dksX8_reason_0 0 rfl rfl)
theorem dX8_reason_1 : decode cX8_reason 1 = .ok (.invokevirtual 20, 3) := dk_182 0 20 (dk_at dksX8_reason_0 1 rfl rfl)
theorem dX8_reason_4 : decode cX8_reason 4 = .ok (.ifnonnull 7, 3) := dk_199 0 7 (dk_at dksX8_reason_0 4 rfl rfl)
theorem dX8_reason_7 : decode cX8_reason 7 = .ok (.iconst 1, 1) := dk_4 (dk_at dksX8_reason_0 7 rfl rfl)
theorem dX8_reason_8 : decode cX8_reason 8 = .ok (.goto 4, 3) := dk_167 0 4 (dk_at dksX8_reason_0 8 rfl rfl)
theorem dX8_reason_11 : decode cX8_reason 11 = .ok (.iconst 2, 1) := dk_5 (dk_at dksX8_reason_0 11 rfl rfl)
theorem dX8_reason_12 : decode cX8_reason 12 = .ok (.ireturn, 1) := dk_172 (dk_at dksX8_reason_0 12 rfl rfl)
abbrev cX8_told : ByteArray := prog_2_method_3_code
def yX8_told : MethodName := ⟨RX8, "told", "()I"⟩
def dkwX8_told_0 : List UInt8 := [42, 182, 0, 20, 192, 0, 24, 76, 43, 199, 0, 10, 42, 180, 0, 17, 167, 0, 7, 43, 180, 0, 26, 172]
abbrev dktX8_told_0 : List UInt8 := dkwX8_told_0 ++ []
theorem dksX8_told_0 : cX8_told.data.toList.drop 0 = dktX8_told_0 := by decide +kernel
theorem dX8_told_0 : decode cX8_told 0 = .ok (.aload_n 0, 1) := dk_42 (dk_at dksX8_told_0 0 rfl rfl)
theorem dX8_told_1 : decode cX8_told 1 = .ok (.invokevirtual 20, 3) := dk_182 0 20 (dk_at dksX8_told_0 1 rfl rfl)
theorem dX8_told_4 : decode cX8_told 4 = .ok (.checkcast 24, 3) := dk_192 0 24 (dk_at dksX8_told_0 4 rfl rfl)
theorem dX8_told_7 : decode cX8_told 7 = .ok (.astore_n 1, 1) := dk_76 (dk_at dksX8_told_0 7 rfl rfl)
theorem dX8_told_8 : decode cX8_told 8 = .ok (.aload_n 1, 1) := dk_43 (dk_at dksX8_told_0 8 rfl rfl)
theorem dX8_told_9 : decode cX8_told 9 = .ok (.ifnonnull 10, 3) := dk_199 0 10 (dk_at dksX8_told_0 9 rfl rfl)
theorem dX8_told_12 : decode cX8_told 12 = .ok (.aload_n 0, 1) := dk_42 (dk_at dksX8_told_0 12 rfl rfl)
theorem dX8_told_13 : decode cX8_told 13 = .ok (.getfield 17, 3) := dk_180 0 17 (dk_at dksX8_told_0 13 rfl rfl)
theorem dX8_told_16 : decode cX8_told 16 = .ok (.goto 7, 3) := dk_167 0 7 (dk_at dksX8_told_0 16 rfl rfl)
theorem dX8_told_19 : decode cX8_told 19 = .ok (.aload_n 1, 1) := dk_43 (dk_at dksX8_told_0 19 rfl rfl)
theorem dX8_told_20 : decode cX8_told 20 = .ok (.getfield 26, 3) := dk_180 0 26 (dk_at dksX8_told_0 20 rfl rfl)
theorem dX8_told_23 : decode cX8_told 23 = .ok (.ireturn, 1) := dk_172 (dk_at dksX8_told_0 23 rfl rfl)
theorem q85 : (Jvm.Cond.initialized "FencedStandbys$Fault") ∈ lw_all := lw_g (lw_at lw_m1 32 rfl) rfl
theorem q390 : (Jvm.Cond.selects "FencedStandbys$Fault" ({ cls := "java/lang/Object", name := "getClass", desc := "()Ljava/lang/Class;" } : Jvm.MethodName) ({ cls := "java/lang/Object", name := "getClass", desc := "()Ljava/lang/Class;" } : Jvm.MethodName)) ∈ lw_all := lw_g (lw_at lw_m2 97 rfl) rfl
theorem q585 : (Jvm.Cond.selects "FencedStandbys$Fault" ({ cls := "java/lang/Throwable", name := "fillInStackTrace", desc := "()Ljava/lang/Throwable;" } : Jvm.MethodName) ({ cls := "java/lang/Throwable", name := "fillInStackTrace", desc := "()Ljava/lang/Throwable;" } : Jvm.MethodName)) ∈ lw_all := lw_g (lw_at lw_m3 52 rfl) rfl
theorem q604 : (Jvm.Cond.fieldLinkNest "FencedStandbys$Fault" (26 : Nat) "FencedStandbys$Refused" "code" "I" "FencedStandbys") ∈ lw_tbl := lw_at lw_m3 71 rfl
theorem q1254 : (Jvm.Cond.instantiable "FencedStandbys$Fault" (8 : Nat)) ∈ lw_all := lw_g (lw_at lw_m6 1 rfl) rfl
theorem q1255 : (Jvm.Cond.castable "FencedStandbys$Fault" "FencedStandbys$Fault") ∈ lw_tbl := lw_at lw_m6 2 rfl
theorem q1256 : (Jvm.Cond.selects "FencedStandbys$Fault" ({ cls := "java/lang/Throwable", name := "fillInStackTrace", desc := "(I)Ljava/lang/Throwable;" } : Jvm.MethodName) ({ cls := "java/lang/Throwable", name := "fillInStackTrace", desc := "(I)Ljava/lang/Throwable;" } : Jvm.MethodName)) ∈ lw_all := lw_g (lw_at lw_m6 3 rfl) rfl
theorem q1257 : (Jvm.Cond.lays "FencedStandbys$Fault" "java/lang/Throwable" "cause" "Ljava/lang/Throwable;") ∈ lw_all := lw_g (lw_at lw_m6 4 rfl) rfl
theorem q1258 : (Jvm.Cond.lays "FencedStandbys$Fault" "java/lang/Throwable" "stackTrace" "[Ljava/lang/StackTraceElement;") ∈ lw_all := lw_g (lw_at lw_m6 5 rfl) rfl
theorem q1259 : (Jvm.Cond.lays "FencedStandbys$Fault" "java/lang/Throwable" "suppressedExceptions" "Ljava/util/List;") ∈ lw_all := lw_g (lw_at lw_m6 6 rfl) rfl
theorem q1260 : (Jvm.Cond.lays "FencedStandbys$Fault" "java/lang/Throwable" "detailMessage" "Ljava/lang/String;") ∈ lw_all := lw_g (lw_at lw_m6 7 rfl) rfl
theorem q1261 : (Jvm.Cond.lays "FencedStandbys$Fault" "java/lang/Throwable" "backtrace" "Ljava/lang/Object;") ∈ lw_all := lw_g (lw_at lw_m6 8 rfl) rfl
theorem q1263 : (Jvm.Cond.instanceMethod ({ cls := "FencedStandbys$Fault", name := "<init>", desc := "(IILFencedStandbys$Refused;)V" } : Jvm.MethodName)) ∈ lw_all := lw_g (lw_at lw_m6 10 rfl) rfl
theorem q1264 : (Jvm.Cond.code ({ cls := "FencedStandbys$Fault", name := "<init>", desc := "(IILFencedStandbys$Refused;)V" } : Jvm.MethodName) prog_2_method_1_code (4 : Nat) (Option.none : Option Jvm.ClassFile.FieldType)) ∈ lw_all := lw_g (lw_at lw_m6 11 rfl) rfl
theorem q1265 : (Jvm.Cond.stringRef "FencedStandbys$Fault" (3 : Nat) "fault") ∈ lw_tbl := lw_at lw_m6 12 rfl
theorem q1266 : (Jvm.Cond.methodLink "FencedStandbys$Fault" (5 : Nat) ({ cls := "java/lang/Exception", name := "<init>", desc := "(Ljava/lang/String;Ljava/lang/Throwable;)V" } : Jvm.MethodName)) ∈ lw_all := lw_g (lw_at lw_m6 13 rfl) rfl
theorem q1272 : (Jvm.Cond.fieldLink "FencedStandbys$Fault" (11 : Nat) "FencedStandbys$Fault" "begins" "I") ∈ lw_all := lw_g (lw_at lw_m6 19 rfl) rfl
theorem q1274 : (Jvm.Cond.fieldLink "FencedStandbys$Fault" (17 : Nat) "FencedStandbys$Fault" "place" "I") ∈ lw_all := lw_g (lw_at lw_m6 21 rfl) rfl
theorem q1275 : (Jvm.Cond.laysFinal "FencedStandbys$Fault" "FencedStandbys$Fault" "begins" "I") ∈ lw_all := lw_g (lw_at lw_m6 22 rfl) rfl
theorem q1276 : (Jvm.Cond.soleField "FencedStandbys$Fault" "begins") ∈ lw_all := lw_g (lw_at lw_m6 23 rfl) rfl
theorem q1277 : (Jvm.Cond.laysFinal "FencedStandbys$Fault" "FencedStandbys$Fault" "place" "I") ∈ lw_all := lw_g (lw_at lw_m6 24 rfl) rfl
theorem q1278 : (Jvm.Cond.soleField "FencedStandbys$Fault" "place") ∈ lw_all := lw_g (lw_at lw_m6 25 rfl) rfl
theorem q1279 : (Jvm.Cond.lays "FencedStandbys$Fault" "java/lang/Throwable" "depth" "I") ∈ lw_all := lw_g (lw_at lw_m6 26 rfl) rfl
theorem q1280 : (Jvm.Cond.superclass "FencedStandbys$Fault" "java/lang/Exception") ∈ lw_all := lw_g (lw_at lw_m6 27 rfl) rfl
theorem q1305 : (Jvm.Cond.instanceMethod ({ cls := "FencedStandbys$Fault", name := "reason", desc := "()I" } : Jvm.MethodName)) ∈ lw_all := lw_g (lw_at lw_m6 52 rfl) rfl
theorem q1306 : (Jvm.Cond.selects "FencedStandbys$Fault" ({ cls := "FencedStandbys$Fault", name := "reason", desc := "()I" } : Jvm.MethodName) ({ cls := "FencedStandbys$Fault", name := "reason", desc := "()I" } : Jvm.MethodName)) ∈ lw_all := lw_g (lw_at lw_m6 53 rfl) rfl
theorem q1307 : (Jvm.Cond.code ({ cls := "FencedStandbys$Fault", name := "reason", desc := "()I" } : Jvm.MethodName) prog_2_method_2_code (1 : Nat) (Option.some Jvm.ClassFile.FieldType.int)) ∈ lw_all := lw_g (lw_at lw_m6 54 rfl) rfl
theorem q1308 : (Jvm.Cond.methodLink "FencedStandbys$Fault" (20 : Nat) ({ cls := "FencedStandbys$Fault", name := "getCause", desc := "()Ljava/lang/Throwable;" } : Jvm.MethodName)) ∈ lw_all := lw_g (lw_at lw_m6 55 rfl) rfl
theorem q1309 : (Jvm.Cond.sameMethod "FencedStandbys$Fault" "java/lang/Throwable" "getCause" "()Ljava/lang/Throwable;") ∈ lw_all := lw_g (lw_at lw_m6 56 rfl) rfl
theorem q1311 : (Jvm.Cond.selects "FencedStandbys$Fault" ({ cls := "FencedStandbys$Fault", name := "getCause", desc := "()Ljava/lang/Throwable;" } : Jvm.MethodName) ({ cls := "java/lang/Throwable", name := "getCause", desc := "()Ljava/lang/Throwable;" } : Jvm.MethodName)) ∈ lw_all := lw_g (lw_at lw_m6 58 rfl) rfl
theorem q1315 : (Jvm.Cond.instanceMethod ({ cls := "FencedStandbys$Fault", name := "told", desc := "()I" } : Jvm.MethodName)) ∈ lw_all := lw_g (lw_at lw_m6 62 rfl) rfl
theorem q1316 : (Jvm.Cond.selects "FencedStandbys$Fault" ({ cls := "FencedStandbys$Fault", name := "told", desc := "()I" } : Jvm.MethodName) ({ cls := "FencedStandbys$Fault", name := "told", desc := "()I" } : Jvm.MethodName)) ∈ lw_all := lw_g (lw_at lw_m6 63 rfl) rfl
theorem q1317 : (Jvm.Cond.code ({ cls := "FencedStandbys$Fault", name := "told", desc := "()I" } : Jvm.MethodName) prog_2_method_3_code (2 : Nat) (Option.some Jvm.ClassFile.FieldType.int)) ∈ lw_all := lw_g (lw_at lw_m6 64 rfl) rfl
theorem q1318 : (Jvm.Cond.classLink "FencedStandbys$Fault" (24 : Nat) "FencedStandbys$Refused") ∈ lw_all := lw_g (lw_at lw_m6 65 rfl) rfl
theorem q1632 : (Jvm.Cond.castable "FencedStandbys$Fault" "java/lang/Object") ∈ lw_tbl := lw_at lw_m7 139 rfl
theorem in_X8 : ∀ w ∈ wsX80, w ∈ lw_all := lw_in wsX80 [1257, 1258, 1259, 1260, 1261, 1279, 1275, 1277] (by decide +kernel) (by decide +kernel)

/-! FencedStandbys$Written -/
set_option maxRecDepth 100000
def RX9 : String := "FencedStandbys$Written"
abbrev cX9_isAgo : ByteArray := prog_9_method_2_code
def yX9_isAgo : MethodName := ⟨RX9, "isAgo", "(II)Z"⟩
def dkwX9_isAgo_0 : List UInt8 := [27, 42, 185, 0, 1, 1, 0, 100, 28, 161, 0, 7, 4, 167, 0, 4, 3, 172]
abbrev dktX9_isAgo_0 : List UInt8 := dkwX9_isAgo_0 ++ []
theorem dksX9_isAgo_0 : cX9_isAgo.data.toList.drop 0 = dktX9_isAgo_0 := by decide +kernel
theorem dX9_isAgo_0 : decode cX9_isAgo 0 = .ok (.iload_n 1, 1) := dk_27 (dk_at dksX9_isAgo_0 0 rfl rfl)
theorem dX9_isAgo_1 : decode cX9_isAgo 1 = .ok (.aload_n 0, 1) := dk_42 (dk_at dksX9_isAgo_0 1 rfl rfl)
theorem dX9_isAgo_2 : decode cX9_isAgo 2 = .ok (.invokeinterface 1 1, 5) := by decide +kernel
theorem dX9_isAgo_7 : decode cX9_isAgo 7 = .ok (.isub, 1) := dk_100 (dk_at dksX9_isAgo_0 7 rfl rfl)
theorem dX9_isAgo_8 : decode cX9_isAgo 8 = .ok (.iload_n 2, 1) := dk_28 (dk_at dksX9_isAgo_0 8 rfl rfl)
theorem dX9_isAgo_9 : decode cX9_isAgo 9 = .ok (.if_icmp .lt 7, 3) := dk_161 0 7 (dk_at dksX9_isAgo_0 9 rfl rfl)
theorem dX9_isAgo_12 : decode cX9_isAgo 12 = .ok (.iconst 1, 1) := dk_4 (dk_at dksX9_isAgo_0 12 rfl rfl)
theorem dX9_isAgo_13 : decode cX9_isAgo 13 = .ok (.goto 4, 3) := dk_167 0 4 (dk_at dksX9_isAgo_0 13 rfl rfl)
theorem dX9_isAgo_16 : decode cX9_isAgo 16 = .ok (.iconst 0, 1) := dk_3 (dk_at dksX9_isAgo_0 16 rfl rfl)
theorem dX9_isAgo_17 : decode cX9_isAgo 17 = .ok (.ireturn, 1) := dk_172 (dk_at dksX9_isAgo_0 17 rfl rfl)
theorem q813 : (Jvm.Cond.interfaceMethod "FencedStandbys$Written" "FencedStandbys$Written" "isAgo" "(II)Z") ∈ lw_tbl := lw_at lw_m4 40 rfl
theorem q814 : (Jvm.Cond.declares ({ cls := "FencedStandbys$Written", name := "isAgo", desc := "(II)Z" } : Jvm.MethodName)) ∈ lw_tbl := lw_at lw_m4 41 rfl
theorem q817 : (Jvm.Cond.instanceMethod ({ cls := "FencedStandbys$Written", name := "isAgo", desc := "(II)Z" } : Jvm.MethodName)) ∈ lw_all := lw_g (lw_at lw_m4 44 rfl) rfl
theorem q818 : (Jvm.Cond.publicMethod ({ cls := "FencedStandbys$Written", name := "isAgo", desc := "(II)Z" } : Jvm.MethodName)) ∈ lw_tbl := lw_at lw_m4 45 rfl
theorem q819 : (Jvm.Cond.code ({ cls := "FencedStandbys$Written", name := "isAgo", desc := "(II)Z" } : Jvm.MethodName) prog_9_method_2_code (3 : Nat) (Option.some Jvm.ClassFile.FieldType.boolean)) ∈ lw_all := lw_g (lw_at lw_m4 46 rfl) rfl
theorem q820 : (Jvm.Cond.interfaceEntry "FencedStandbys$Written" (1 : Nat)) ∈ lw_tbl := lw_at lw_m4 47 rfl
theorem q821 : (Jvm.Cond.methodLink "FencedStandbys$Written" (1 : Nat) ({ cls := "FencedStandbys$Written", name := "writtenIn", desc := "()I" } : Jvm.MethodName)) ∈ lw_all := lw_g (lw_at lw_m4 48 rfl) rfl
theorem q822 : (Jvm.Cond.interfaceMethod "FencedStandbys$Written" "FencedStandbys$Written" "writtenIn" "()I") ∈ lw_tbl := lw_at lw_m4 49 rfl
theorem q823 : (Jvm.Cond.declares ({ cls := "FencedStandbys$Written", name := "writtenIn", desc := "()I" } : Jvm.MethodName)) ∈ lw_tbl := lw_at lw_m4 50 rfl
theorem q1618 : (Jvm.Cond.initialized "FencedStandbys$Written") ∈ lw_all := lw_g (lw_at lw_m7 125 rfl) rfl
