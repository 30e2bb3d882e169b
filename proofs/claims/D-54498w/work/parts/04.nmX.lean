/-! ShareStreams -/
set_option maxRecDepth 100000
def RX0 : String := "ShareStreams"
def TX0 : u_T := fun k => match k with
  | 0 => ("ShareStreams", "bench", "LShareStreams$Bench;", false)
  | 1 => ("ShareStreams", "snapshot", "LShareStreams$Bench;", false)
  | 2 => ("ShareStreams", "history", "Ljava/util/List;", true)
  | _ => ("ShareStreams", "text", "Ljava/lang/StringBuilder;", true)
def tyX0 : Nat → FieldType := fun k => match k with
  | 0 => .object "ShareStreams$Bench"
  | 1 => .object "ShareStreams$Bench"
  | 2 => .object "java/util/List"
  | _ => .object "java/lang/StringBuilder"
abbrev wsX00 : List Cond := u_ws RX0 TX0 4
theorem nmX0 : ∀ a, a < 4 → ∀ b, b < 4 → a ≠ b → (TX0 a).2.1 ≠ (TX0 b).2.1 := by decide +kernel
theorem tyX0_ok : ∀ k, k < 4 → parseFieldDescriptor (TX0 k).2.2.1 = some (tyX0 k) := by decide +kernel
abbrev cX0_init : ByteArray := prog_1_method_4_code
def yX0_init : MethodName := ⟨RX0, "<init>", "()V"⟩
def dkwX0_init_1 : List UInt8 := [181, 0, 20, 42, 187, 0, 24, 89, 183, 0, 26, 181, 0, 27, 177]
abbrev dktX0_init_1 : List UInt8 := dkwX0_init_1 ++ []
def dkwX0_init_0 : List UInt8 := [42, 183, 0, 4, 42, 187, 0, 10, 89, 183, 0, 12, 181, 0, 13, 42, 187, 0, 17, 89, 183, 0, 19]
abbrev dktX0_init_0 : List UInt8 := dkwX0_init_0 ++ dktX0_init_1
theorem dksX0_init_0 : cX0_init.data.toList.drop 0 = dktX0_init_0 := by decide +kernel
theorem dksX0_init_1 : cX0_init.data.toList.drop 23 = dktX0_init_1 := dk_seg dksX0_init_0 23 rfl rfl
theorem dX0_init_0 : decode cX0_init 0 = .ok (.aload_n 0, 1) := dk_42 (dk_at dksX0_init_0 0 rfl rfl)
theorem dX0_init_1 : decode cX0_init 1 = .ok (.invokespecial 4, 3) := dk_183 0 4 (dk_at dksX0_init_0 1 rfl rfl)
theorem dX0_init_4 : decode cX0_init 4 = .ok (.aload_n 0, 1) := dk_42 (dk_at dksX0_init_0 4 rfl rfl)
theorem dX0_init_5 : decode cX0_init 5 = .ok (.new 10, 3) := dk_187 0 10 (dk_at dksX0_init_0 5 rfl rfl)
theorem dX0_init_8 : decode cX0_init 8 = .ok (.dup, 1) := dk_89 (dk_at dksX0_init_0 8 rfl rfl)
theorem dX0_init_9 : decode cX0_init 9 = .ok (.invokespecial 12, 3) := dk_183 0 12 (dk_at dksX0_init_0 9 rfl rfl)
theorem dX0_init_12 : decode cX0_init 12 = .ok (.putfield 13, 3) := dk_181 0 13 (dk_at dksX0_init_0 12 rfl rfl)
theorem dX0_init_15 : decode cX0_init 15 = .ok (.aload_n 0, 1) := dk_42 (dk_at dksX0_init_0 15 rfl rfl)
theorem dX0_init_16 : decode cX0_init 16 = .ok (.new 17, 3) := dk_187 0 17 (dk_at dksX0_init_0 16 rfl rfl)
theorem dX0_init_19 : decode cX0_init 19 = .ok (.dup, 1) := dk_89 (dk_at dksX0_init_0 19 rfl rfl)
theorem dX0_init_20 : decode cX0_init 20 = .ok (.invokespecial 19, 3) := dk_183 0 19 (dk_at dksX0_init_0 20 rfl rfl)
theorem dX0_init_23 : decode cX0_init 23 = .ok (.putfield 20, 3) := dk_181 0 20 (dk_at dksX0_init_1 0 rfl rfl)
theorem dX0_init_26 : decode cX0_init 26 = .ok (.aload_n 0, 1) := dk_42 (dk_at dksX0_init_1 3 rfl rfl)
theorem dX0_init_27 : decode cX0_init 27 = .ok (.new 24, 3) := dk_187 0 24 (dk_at dksX0_init_1 4 rfl rfl)
theorem dX0_init_30 : decode cX0_init 30 = .ok (.dup, 1) := dk_89 (dk_at dksX0_init_1 7 rfl rfl)
theorem dX0_init_31 : decode cX0_init 31 = .ok (.invokespecial 26, 3) := dk_183 0 26 (dk_at dksX0_init_1 8 rfl rfl)
theorem dX0_init_34 : decode cX0_init 34 = .ok (.putfield 27, 3) := dk_181 0 27 (dk_at dksX0_init_1 11 rfl rfl)
theorem dX0_init_37 : decode cX0_init 37 = .ok (.return_, 1) := dk_177 (dk_at dksX0_init_1 14 rfl rfl)
abbrev cX0_source : ByteArray := prog_1_method_7_code
def yX0_source : MethodName := ⟨RX0, "source", "(II)I"⟩
def dkwX0_source_1 : List UInt8 := [5, 188, 10, 89, 3, 27, 79, 89, 4, 28, 79, 184, 0, 60, 182, 0, 66, 167, 0, 5, 18, 3, 172]
abbrev dktX0_source_1 : List UInt8 := dkwX0_source_1 ++ []
def dkwX0_source_0 : List UInt8 := [27, 3, 17, 1, 0, 184, 0, 56, 153, 0, 36, 28, 4, 17, 0, 255, 184, 0, 56, 153, 0, 25, 42, 3]
abbrev dktX0_source_0 : List UInt8 := dkwX0_source_0 ++ dktX0_source_1
theorem dksX0_source_0 : cX0_source.data.toList.drop 0 = dktX0_source_0 := by decide +kernel
theorem dksX0_source_1 : cX0_source.data.toList.drop 24 = dktX0_source_1 := dk_seg dksX0_source_0 24 rfl rfl
theorem dX0_source_0 : decode cX0_source 0 = .ok (.iload_n 1, 1) := dk_27 (dk_at dksX0_source_0 0 rfl rfl)
theorem dX0_source_1 : decode cX0_source 1 = .ok (.iconst 0, 1) := dk_3 (dk_at dksX0_source_0 1 rfl rfl)
theorem dX0_source_2 : decode cX0_source 2 = .ok (.sipush 256, 3) := dk_17 1 0 (dk_at dksX0_source_0 2 rfl rfl)
theorem dX0_source_5 : decode cX0_source 5 = .ok (.invokestatic 56, 3) := dk_184 0 56 (dk_at dksX0_source_0 5 rfl rfl)
theorem dX0_source_8 : decode cX0_source 8 = .ok (.ifCond .eq 36, 3) := dk_153 0 36 (dk_at dksX0_source_0 8 rfl rfl)
theorem dX0_source_11 : decode cX0_source 11 = .ok (.iload_n 2, 1) := dk_28 (dk_at dksX0_source_0 11 rfl rfl)
theorem dX0_source_12 : decode cX0_source 12 = .ok (.iconst 1, 1) := dk_4 (dk_at dksX0_source_0 12 rfl rfl)
theorem dX0_source_13 : decode cX0_source 13 = .ok (.sipush 255, 3) := dk_17 0 255 (dk_at dksX0_source_0 13 rfl rfl)
theorem dX0_source_16 : decode cX0_source 16 = .ok (.invokestatic 56, 3) := dk_184 0 56 (dk_at dksX0_source_0 16 rfl rfl)
theorem dX0_source_19 : decode cX0_source 19 = .ok (.ifCond .eq 25, 3) := dk_153 0 25 (dk_at dksX0_source_0 19 rfl rfl)
theorem dX0_source_22 : decode cX0_source 22 = .ok (.aload_n 0, 1) := dk_42 (dk_at dksX0_source_0 22 rfl rfl)
theorem dX0_source_23 : decode cX0_source 23 = .ok (.iconst 0, 1) := dk_3 (dk_at dksX0_source_0 23 rfl rfl)
theorem dX0_source_24 : decode cX0_source 24 = .ok (.iconst 2, 1) := dk_5 (dk_at dksX0_source_1 0 rfl rfl)
theorem dX0_source_25 : decode cX0_source 25 = .ok (.newarray .int, 2) := dk_188_10 (dk_at dksX0_source_1 1 rfl rfl)
theorem dX0_source_27 : decode cX0_source 27 = .ok (.dup, 1) := dk_89 (dk_at dksX0_source_1 3 rfl rfl)
theorem dX0_source_28 : decode cX0_source 28 = .ok (.iconst 0, 1) := dk_3 (dk_at dksX0_source_1 4 rfl rfl)
theorem dX0_source_29 : decode cX0_source 29 = .ok (.iload_n 1, 1) := dk_27 (dk_at dksX0_source_1 5 rfl rfl)
theorem dX0_source_30 : decode cX0_source 30 = .ok (.iastore, 1) := dk_79 (dk_at dksX0_source_1 6 rfl rfl)
theorem dX0_source_31 : decode cX0_source 31 = .ok (.dup, 1) := dk_89 (dk_at dksX0_source_1 7 rfl rfl)
theorem dX0_source_32 : decode cX0_source 32 = .ok (.iconst 1, 1) := dk_4 (dk_at dksX0_source_1 8 rfl rfl)
theorem dX0_source_33 : decode cX0_source 33 = .ok (.iload_n 2, 1) := dk_28 (dk_at dksX0_source_1 9 rfl rfl)
theorem dX0_source_34 : decode cX0_source 34 = .ok (.iastore, 1) := dk_79 (dk_at dksX0_source_1 10 rfl rfl)
theorem dX0_source_35 : decode cX0_source 35 = .ok (.invokestatic 60, 3) := dk_184 0 60 (dk_at dksX0_source_1 11 rfl rfl)
theorem dX0_source_38 : decode cX0_source 38 = .ok (.invokevirtual 66, 3) := dk_182 0 66 (dk_at dksX0_source_1 14 rfl rfl)
theorem dX0_source_41 : decode cX0_source 41 = .ok (.goto 5, 3) := dk_167 0 5 (dk_at dksX0_source_1 17 rfl rfl)
theorem dX0_source_44 : decode cX0_source 44 = .ok (.ldc 3, 2) := dk_18 3 (dk_at dksX0_source_1 20 rfl rfl)
theorem dX0_source_46 : decode cX0_source 46 = .ok (.ireturn, 1) := dk_172 (dk_at dksX0_source_1 22 rfl rfl)
abbrev cX0_inRange : ByteArray := prog_1_method_1_code
def yX0_inRange : MethodName := ⟨RX0, "inRange", "(III)Z"⟩
def dkwX0_inRange_0 : List UInt8 := [26, 27, 161, 0, 12, 26, 28, 163, 0, 7, 4, 167, 0, 4, 3, 172]
abbrev dktX0_inRange_0 : List UInt8 := dkwX0_inRange_0 ++ []
theorem dksX0_inRange_0 : cX0_inRange.data.toList.drop 0 = dktX0_inRange_0 := by decide +kernel
theorem dX0_inRange_0 : decode cX0_inRange 0 = .ok (.iload_n 0, 1) := dk_26 (dk_at dksX0_inRange_0 0 rfl rfl)
theorem dX0_inRange_1 : decode cX0_inRange 1 = .ok (.iload_n 1, 1) := dk_27 (dk_at dksX0_inRange_0 1 rfl rfl)
theorem dX0_inRange_2 : decode cX0_inRange 2 = .ok (.if_icmp .lt 12, 3) := dk_161 0 12 (dk_at dksX0_inRange_0 2 rfl rfl)
theorem dX0_inRange_5 : decode cX0_inRange 5 = .ok (.iload_n 0, 1) := dk_26 (dk_at dksX0_inRange_0 5 rfl rfl)
theorem dX0_inRange_6 : decode cX0_inRange 6 = .ok (.iload_n 2, 1) := dk_28 (dk_at dksX0_inRange_0 6 rfl rfl)
theorem dX0_inRange_7 : decode cX0_inRange 7 = .ok (.if_icmp .gt 7, 3) := dk_163 0 7 (dk_at dksX0_inRange_0 7 rfl rfl)
theorem dX0_inRange_10 : decode cX0_inRange 10 = .ok (.iconst 1, 1) := dk_4 (dk_at dksX0_inRange_0 10 rfl rfl)
theorem dX0_inRange_11 : decode cX0_inRange 11 = .ok (.goto 4, 3) := dk_167 0 4 (dk_at dksX0_inRange_0 11 rfl rfl)
theorem dX0_inRange_14 : decode cX0_inRange 14 = .ok (.iconst 0, 1) := dk_3 (dk_at dksX0_inRange_0 14 rfl rfl)
theorem dX0_inRange_15 : decode cX0_inRange 15 = .ok (.ireturn, 1) := dk_172 (dk_at dksX0_inRange_0 15 rfl rfl)
abbrev cX0_add : ByteArray := prog_1_method_6_code
def yX0_add : MethodName := ⟨RX0, "add", "(LShareStreams$Line;)I"⟩
def dkwX0_add_2 : List UInt8 := [45, 28, 182, 0, 52, 172]
abbrev dktX0_add_2 : List UInt8 := dkwX0_add_2 ++ []
def dkwX0_add_1 : List UInt8 := [187, 0, 10, 89, 42, 180, 0, 13, 183, 0, 49, 78, 45, 180, 0, 45, 43, 185, 0, 41, 2, 0, 87, 42]
abbrev dktX0_add_1 : List UInt8 := dkwX0_add_1 ++ dktX0_add_2
def dkwX0_add_0 : List UInt8 := [42, 180, 0, 13, 180, 0, 45, 185, 0, 31, 1, 0, 61, 28, 16, 16, 160, 0, 6, 18, 48, 172]
abbrev dktX0_add_0 : List UInt8 := dkwX0_add_0 ++ dktX0_add_1
theorem dksX0_add_0 : cX0_add.data.toList.drop 0 = dktX0_add_0 := by decide +kernel
theorem dksX0_add_1 : cX0_add.data.toList.drop 22 = dktX0_add_1 := dk_seg dksX0_add_0 22 rfl rfl
theorem dksX0_add_2 : cX0_add.data.toList.drop 46 = dktX0_add_2 := dk_seg dksX0_add_1 24 rfl rfl
theorem dX0_add_0 : decode cX0_add 0 = .ok (.aload_n 0, 1) := dk_42 (dk_at dksX0_add_0 0 rfl rfl)
theorem dX0_add_1 : decode cX0_add 1 = .ok (.getfield 13, 3) := dk_180 0 13 (dk_at dksX0_add_0 1 rfl rfl)
theorem dX0_add_4 : decode cX0_add 4 = .ok (.getfield 45, 3) := dk_180 0 45 (dk_at dksX0_add_0 4 rfl rfl)
theorem dX0_add_7 : decode cX0_add 7 = .ok (.invokeinterface 31 1, 5) := by decide +kernel
theorem dX0_add_12 : decode cX0_add 12 = .ok (.istore_n 2, 1) := dk_61 (dk_at dksX0_add_0 12 rfl rfl)
theorem dX0_add_13 : decode cX0_add 13 = .ok (.iload_n 2, 1) := dk_28 (dk_at dksX0_add_0 13 rfl rfl)
theorem dX0_add_14 : decode cX0_add 14 = .ok (.bipush 16, 2) := dk_16 16 (dk_at dksX0_add_0 14 rfl rfl)
theorem dX0_add_16 : decode cX0_add 16 = .ok (.if_icmp .ne 6, 3) := dk_160 0 6 (dk_at dksX0_add_0 16 rfl rfl)
theorem dX0_add_19 : decode cX0_add 19 = .ok (.ldc 48, 2) := dk_18 48 (dk_at dksX0_add_0 19 rfl rfl)
theorem dX0_add_21 : decode cX0_add 21 = .ok (.ireturn, 1) := dk_172 (dk_at dksX0_add_0 21 rfl rfl)
theorem dX0_add_22 : decode cX0_add 22 = .ok (.new 10, 3) := dk_187 0 10 (dk_at dksX0_add_1 0 rfl rfl)
theorem dX0_add_25 : decode cX0_add 25 = .ok (.dup, 1) := dk_89 (dk_at dksX0_add_1 3 rfl rfl)
theorem dX0_add_26 : decode cX0_add 26 = .ok (.aload_n 0, 1) := dk_42 (dk_at dksX0_add_1 4 rfl rfl)
theorem dX0_add_27 : decode cX0_add 27 = .ok (.getfield 13, 3) := dk_180 0 13 (dk_at dksX0_add_1 5 rfl rfl)
theorem dX0_add_30 : decode cX0_add 30 = .ok (.invokespecial 49, 3) := dk_183 0 49 (dk_at dksX0_add_1 8 rfl rfl)
theorem dX0_add_33 : decode cX0_add 33 = .ok (.astore_n 3, 1) := dk_78 (dk_at dksX0_add_1 11 rfl rfl)
theorem dX0_add_34 : decode cX0_add 34 = .ok (.aload_n 3, 1) := dk_45 (dk_at dksX0_add_1 12 rfl rfl)
theorem dX0_add_35 : decode cX0_add 35 = .ok (.getfield 45, 3) := dk_180 0 45 (dk_at dksX0_add_1 13 rfl rfl)
theorem dX0_add_38 : decode cX0_add 38 = .ok (.aload_n 1, 1) := dk_43 (dk_at dksX0_add_1 16 rfl rfl)
theorem dX0_add_39 : decode cX0_add 39 = .ok (.invokeinterface 41 2, 5) := by decide +kernel
theorem dX0_add_44 : decode cX0_add 44 = .ok (.pop, 1) := dk_87 (dk_at dksX0_add_1 22 rfl rfl)
theorem dX0_add_45 : decode cX0_add 45 = .ok (.aload_n 0, 1) := dk_42 (dk_at dksX0_add_1 23 rfl rfl)
theorem dX0_add_46 : decode cX0_add 46 = .ok (.aload_n 3, 1) := dk_45 (dk_at dksX0_add_2 0 rfl rfl)
theorem dX0_add_47 : decode cX0_add 47 = .ok (.iload_n 2, 1) := dk_28 (dk_at dksX0_add_2 1 rfl rfl)
theorem dX0_add_48 : decode cX0_add 48 = .ok (.invokevirtual 52, 3) := dk_182 0 52 (dk_at dksX0_add_2 2 rfl rfl)
theorem dX0_add_51 : decode cX0_add 51 = .ok (.ireturn, 1) := dk_172 (dk_at dksX0_add_2 5 rfl rfl)
abbrev cX0_accept : ByteArray := prog_1_method_5_code
def yX0_accept : MethodName := ⟨RX0, "accept", "(LShareStreams$Bench;I)I"⟩
def dkwX0_accept_1 : List UInt8 := [42, 180, 0, 20, 42, 180, 0, 13, 185, 0, 41, 2, 0, 87, 42, 43, 181, 0, 13, 28, 172]
abbrev dktX0_accept_1 : List UInt8 := dkwX0_accept_1 ++ []
def dkwX0_accept_0 : List UInt8 := [42, 180, 0, 20, 185, 0, 31, 1, 0, 7, 160, 0, 14, 42, 180, 0, 20, 3, 185, 0, 37, 2, 0, 87]
abbrev dktX0_accept_0 : List UInt8 := dkwX0_accept_0 ++ dktX0_accept_1
theorem dksX0_accept_0 : cX0_accept.data.toList.drop 0 = dktX0_accept_0 := by decide +kernel
theorem dksX0_accept_1 : cX0_accept.data.toList.drop 24 = dktX0_accept_1 := dk_seg dksX0_accept_0 24 rfl rfl
theorem dX0_accept_0 : decode cX0_accept 0 = .ok (.aload_n 0, 1) := dk_42 (dk_at dksX0_accept_0 0 rfl rfl)
theorem dX0_accept_1 : decode cX0_accept 1 = .ok (.getfield 20, 3) := dk_180 0 20 (dk_at dksX0_accept_0 1 rfl rfl)
theorem dX0_accept_4 : decode cX0_accept 4 = .ok (.invokeinterface 31 1, 5) := by decide +kernel
theorem dX0_accept_9 : decode cX0_accept 9 = .ok (.iconst 4, 1) := dk_7 (dk_at dksX0_accept_0 9 rfl rfl)
theorem dX0_accept_10 : decode cX0_accept 10 = .ok (.if_icmp .ne 14, 3) := dk_160 0 14 (dk_at dksX0_accept_0 10 rfl rfl)
theorem dX0_accept_13 : decode cX0_accept 13 = .ok (.aload_n 0, 1) := dk_42 (dk_at dksX0_accept_0 13 rfl rfl)
theorem dX0_accept_14 : decode cX0_accept 14 = .ok (.getfield 20, 3) := dk_180 0 20 (dk_at dksX0_accept_0 14 rfl rfl)
theorem dX0_accept_17 : decode cX0_accept 17 = .ok (.iconst 0, 1) := dk_3 (dk_at dksX0_accept_0 17 rfl rfl)
theorem dX0_accept_18 : decode cX0_accept 18 = .ok (.invokeinterface 37 2, 5) := by decide +kernel
theorem dX0_accept_23 : decode cX0_accept 23 = .ok (.pop, 1) := dk_87 (dk_at dksX0_accept_0 23 rfl rfl)
theorem dX0_accept_24 : decode cX0_accept 24 = .ok (.aload_n 0, 1) := dk_42 (dk_at dksX0_accept_1 0 rfl rfl)
theorem dX0_accept_25 : decode cX0_accept 25 = .ok (.getfield 20, 3) := dk_180 0 20 (dk_at dksX0_accept_1 1 rfl rfl)
theorem dX0_accept_28 : decode cX0_accept 28 = .ok (.aload_n 0, 1) := dk_42 (dk_at dksX0_accept_1 4 rfl rfl)
theorem dX0_accept_29 : decode cX0_accept 29 = .ok (.getfield 13, 3) := dk_180 0 13 (dk_at dksX0_accept_1 5 rfl rfl)
theorem dX0_accept_32 : decode cX0_accept 32 = .ok (.invokeinterface 41 2, 5) := by decide +kernel
theorem dX0_accept_37 : decode cX0_accept 37 = .ok (.pop, 1) := dk_87 (dk_at dksX0_accept_1 13 rfl rfl)
theorem dX0_accept_38 : decode cX0_accept 38 = .ok (.aload_n 0, 1) := dk_42 (dk_at dksX0_accept_1 14 rfl rfl)
theorem dX0_accept_39 : decode cX0_accept 39 = .ok (.aload_n 1, 1) := dk_43 (dk_at dksX0_accept_1 15 rfl rfl)
theorem dX0_accept_40 : decode cX0_accept 40 = .ok (.putfield 13, 3) := dk_181 0 13 (dk_at dksX0_accept_1 16 rfl rfl)
theorem dX0_accept_43 : decode cX0_accept 43 = .ok (.iload_n 2, 1) := dk_28 (dk_at dksX0_accept_1 19 rfl rfl)
theorem dX0_accept_44 : decode cX0_accept 44 = .ok (.ireturn, 1) := dk_172 (dk_at dksX0_accept_1 20 rfl rfl)
abbrev cX0_gate : ByteArray := prog_1_method_8_code
def yX0_gate : MethodName := ⟨RX0, "gate", "(III)I"⟩
def dkwX0_gate_2 : List UInt8 := [184, 0, 60, 182, 0, 66, 167, 0, 5, 18, 3, 172]
abbrev dktX0_gate_2 : List UInt8 := dkwX0_gate_2 ++ []
def dkwX0_gate_1 : List UInt8 := [172, 27, 4, 6, 184, 0, 56, 153, 0, 25, 42, 27, 5, 188, 10, 89, 3, 28, 79, 89, 4, 29, 79]
abbrev dktX0_gate_1 : List UInt8 := dkwX0_gate_1 ++ dktX0_gate_2
def dkwX0_gate_0 : List UInt8 := [42, 180, 0, 13, 28, 182, 0, 69, 153, 0, 14, 42, 180, 0, 13, 29, 182, 0, 69, 154, 0, 6, 18, 73]
abbrev dktX0_gate_0 : List UInt8 := dkwX0_gate_0 ++ dktX0_gate_1
theorem dksX0_gate_0 : cX0_gate.data.toList.drop 0 = dktX0_gate_0 := by decide +kernel
theorem dksX0_gate_1 : cX0_gate.data.toList.drop 24 = dktX0_gate_1 := dk_seg dksX0_gate_0 24 rfl rfl
theorem dksX0_gate_2 : cX0_gate.data.toList.drop 47 = dktX0_gate_2 := dk_seg dksX0_gate_1 23 rfl rfl
theorem dX0_gate_0 : decode cX0_gate 0 = .ok (.aload_n 0, 1) := dk_42 (dk_at dksX0_gate_0 0 rfl rfl)
theorem dX0_gate_1 : decode cX0_gate 1 = .ok (.getfield 13, 3) := dk_180 0 13 (dk_at dksX0_gate_0 1 rfl rfl)
theorem dX0_gate_4 : decode cX0_gate 4 = .ok (.iload_n 2, 1) := dk_28 (dk_at dksX0_gate_0 4 rfl rfl)
theorem dX0_gate_5 : decode cX0_gate 5 = .ok (.invokevirtual 69, 3) := dk_182 0 69 (dk_at dksX0_gate_0 5 rfl rfl)
theorem dX0_gate_8 : decode cX0_gate 8 = .ok (.ifCond .eq 14, 3) := dk_153 0 14 (dk_at dksX0_gate_0 8 rfl rfl)
theorem dX0_gate_11 : decode cX0_gate 11 = .ok (.aload_n 0, 1) := dk_42 (dk_at dksX0_gate_0 11 rfl rfl)
theorem dX0_gate_12 : decode cX0_gate 12 = .ok (.getfield 13, 3) := dk_180 0 13 (dk_at dksX0_gate_0 12 rfl rfl)
theorem dX0_gate_15 : decode cX0_gate 15 = .ok (.iload_n 3, 1) := dk_29 (dk_at dksX0_gate_0 15 rfl rfl)
theorem dX0_gate_16 : decode cX0_gate 16 = .ok (.invokevirtual 69, 3) := dk_182 0 69 (dk_at dksX0_gate_0 16 rfl rfl)
theorem dX0_gate_19 : decode cX0_gate 19 = .ok (.ifCond .ne 6, 3) := dk_154 0 6 (dk_at dksX0_gate_0 19 rfl rfl)
theorem dX0_gate_22 : decode cX0_gate 22 = .ok (.ldc 73, 2) := dk_18 73 (dk_at dksX0_gate_0 22 rfl rfl)
theorem dX0_gate_24 : decode cX0_gate 24 = .ok (.ireturn, 1) := dk_172 (dk_at dksX0_gate_1 0 rfl rfl)
theorem dX0_gate_25 : decode cX0_gate 25 = .ok (.iload_n 1, 1) := dk_27 (dk_at dksX0_gate_1 1 rfl rfl)
theorem dX0_gate_26 : decode cX0_gate 26 = .ok (.iconst 1, 1) := dk_4 (dk_at dksX0_gate_1 2 rfl rfl)
theorem dX0_gate_27 : decode cX0_gate 27 = .ok (.iconst 3, 1) := dk_6 (dk_at dksX0_gate_1 3 rfl rfl)
theorem dX0_gate_28 : decode cX0_gate 28 = .ok (.invokestatic 56, 3) := dk_184 0 56 (dk_at dksX0_gate_1 4 rfl rfl)
theorem dX0_gate_31 : decode cX0_gate 31 = .ok (.ifCond .eq 25, 3) := dk_153 0 25 (dk_at dksX0_gate_1 7 rfl rfl)
theorem dX0_gate_34 : decode cX0_gate 34 = .ok (.aload_n 0, 1) := dk_42 (dk_at dksX0_gate_1 10 rfl rfl)
theorem dX0_gate_35 : decode cX0_gate 35 = .ok (.iload_n 1, 1) := dk_27 (dk_at dksX0_gate_1 11 rfl rfl)
theorem dX0_gate_36 : decode cX0_gate 36 = .ok (.iconst 2, 1) := dk_5 (dk_at dksX0_gate_1 12 rfl rfl)
theorem dX0_gate_37 : decode cX0_gate 37 = .ok (.newarray .int, 2) := dk_188_10 (dk_at dksX0_gate_1 13 rfl rfl)
theorem dX0_gate_39 : decode cX0_gate 39 = .ok (.dup, 1) := dk_89 (dk_at dksX0_gate_1 15 rfl rfl)
theorem dX0_gate_40 : decode cX0_gate 40 = .ok (.iconst 0, 1) := dk_3 (dk_at dksX0_gate_1 16 rfl rfl)
theorem dX0_gate_41 : decode cX0_gate 41 = .ok (.iload_n 2, 1) := dk_28 (dk_at dksX0_gate_1 17 rfl rfl)
theorem dX0_gate_42 : decode cX0_gate 42 = .ok (.iastore, 1) := dk_79 (dk_at dksX0_gate_1 18 rfl rfl)
theorem dX0_gate_43 : decode cX0_gate 43 = .ok (.dup, 1) := dk_89 (dk_at dksX0_gate_1 19 rfl rfl)
theorem dX0_gate_44 : decode cX0_gate 44 = .ok (.iconst 1, 1) := dk_4 (dk_at dksX0_gate_1 20 rfl rfl)
theorem dX0_gate_45 : decode cX0_gate 45 = .ok (.iload_n 3, 1) := dk_29 (dk_at dksX0_gate_1 21 rfl rfl)
theorem dX0_gate_46 : decode cX0_gate 46 = .ok (.iastore, 1) := dk_79 (dk_at dksX0_gate_1 22 rfl rfl)
theorem dX0_gate_47 : decode cX0_gate 47 = .ok (.invokestatic 60, 3) := dk_184 0 60 (dk_at dksX0_gate_2 0 rfl rfl)
theorem dX0_gate_50 : decode cX0_gate 50 = .ok (.invokevirtual 66, 3) := dk_182 0 66 (dk_at dksX0_gate_2 3 rfl rfl)
theorem dX0_gate_53 : decode cX0_gate 53 = .ok (.goto 5, 3) := dk_167 0 5 (dk_at dksX0_gate_2 6 rfl rfl)
theorem dX0_gate_56 : decode cX0_gate 56 = .ok (.ldc 3, 2) := dk_18 3 (dk_at dksX0_gate_2 9 rfl rfl)
theorem dX0_gate_58 : decode cX0_gate 58 = .ok (.ireturn, 1) := dk_172 (dk_at dksX0_gate_2 11 rfl rfl)
abbrev cX0_choose : ByteArray := prog_1_method_9_code
def yX0_choose : MethodName := ⟨RX0, "choose", "(III)I"⟩
def dkwX0_choose_2 : List UInt8 := [5, 29, 79, 184, 0, 60, 182, 0, 66, 167, 0, 5, 18, 73, 172]
abbrev dktX0_choose_2 : List UInt8 := dkwX0_choose_2 ++ []
def dkwX0_choose_1 : List UInt8 := [180, 0, 13, 29, 182, 0, 69, 153, 0, 29, 42, 7, 6, 188, 10, 89, 3, 27, 79, 89, 4, 28, 79, 89]
abbrev dktX0_choose_1 : List UInt8 := dkwX0_choose_1 ++ dktX0_choose_2
def dkwX0_choose_0 : List UInt8 := [42, 180, 0, 13, 27, 182, 0, 69, 153, 0, 51, 42, 180, 0, 13, 28, 182, 0, 69, 153, 0, 40, 42]
abbrev dktX0_choose_0 : List UInt8 := dkwX0_choose_0 ++ dktX0_choose_1
theorem dksX0_choose_0 : cX0_choose.data.toList.drop 0 = dktX0_choose_0 := by decide +kernel
theorem dksX0_choose_1 : cX0_choose.data.toList.drop 23 = dktX0_choose_1 := dk_seg dksX0_choose_0 23 rfl rfl
theorem dksX0_choose_2 : cX0_choose.data.toList.drop 47 = dktX0_choose_2 := dk_seg dksX0_choose_1 24 rfl rfl
theorem dX0_choose_0 : decode cX0_choose 0 = .ok (.aload_n 0, 1) := dk_42 (dk_at dksX0_choose_0 0 rfl rfl)
theorem dX0_choose_1 : decode cX0_choose 1 = .ok (.getfield 13, 3) := dk_180 0 13 (dk_at dksX0_choose_0 1 rfl rfl)
theorem dX0_choose_4 : decode cX0_choose 4 = .ok (.iload_n 1, 1) := dk_27 (dk_at dksX0_choose_0 4 rfl rfl)
theorem dX0_choose_5 : decode cX0_choose 5 = .ok (.invokevirtual 69, 3) := dk_182 0 69 (dk_at dksX0_choose_0 5 rfl rfl)
theorem dX0_choose_8 : decode cX0_choose 8 = .ok (.ifCond .eq 51, 3) := dk_153 0 51 (dk_at dksX0_choose_0 8 rfl rfl)
theorem dX0_choose_11 : decode cX0_choose 11 = .ok (.aload_n 0, 1) := dk_42 (dk_at dksX0_choose_0 11 rfl rfl)
theorem dX0_choose_12 : decode cX0_choose 12 = .ok (.getfield 13, 3) := dk_180 0 13 (dk_at dksX0_choose_0 12 rfl rfl)
theorem dX0_choose_15 : decode cX0_choose 15 = .ok (.iload_n 2, 1) := dk_28 (dk_at dksX0_choose_0 15 rfl rfl)
theorem dX0_choose_16 : decode cX0_choose 16 = .ok (.invokevirtual 69, 3) := dk_182 0 69 (dk_at dksX0_choose_0 16 rfl rfl)
theorem dX0_choose_19 : decode cX0_choose 19 = .ok (.ifCond .eq 40, 3) := dk_153 0 40 (dk_at dksX0_choose_0 19 rfl rfl)
theorem dX0_choose_22 : decode cX0_choose 22 = .ok (.aload_n 0, 1) := dk_42 (dk_at dksX0_choose_0 22 rfl rfl)
theorem dX0_choose_23 : decode cX0_choose 23 = .ok (.getfield 13, 3) := dk_180 0 13 (dk_at dksX0_choose_1 0 rfl rfl)
theorem dX0_choose_26 : decode cX0_choose 26 = .ok (.iload_n 3, 1) := dk_29 (dk_at dksX0_choose_1 3 rfl rfl)
theorem dX0_choose_27 : decode cX0_choose 27 = .ok (.invokevirtual 69, 3) := dk_182 0 69 (dk_at dksX0_choose_1 4 rfl rfl)
theorem dX0_choose_30 : decode cX0_choose 30 = .ok (.ifCond .eq 29, 3) := dk_153 0 29 (dk_at dksX0_choose_1 7 rfl rfl)
theorem dX0_choose_33 : decode cX0_choose 33 = .ok (.aload_n 0, 1) := dk_42 (dk_at dksX0_choose_1 10 rfl rfl)
theorem dX0_choose_34 : decode cX0_choose 34 = .ok (.iconst 4, 1) := dk_7 (dk_at dksX0_choose_1 11 rfl rfl)
theorem dX0_choose_35 : decode cX0_choose 35 = .ok (.iconst 3, 1) := dk_6 (dk_at dksX0_choose_1 12 rfl rfl)
theorem dX0_choose_36 : decode cX0_choose 36 = .ok (.newarray .int, 2) := dk_188_10 (dk_at dksX0_choose_1 13 rfl rfl)
theorem dX0_choose_38 : decode cX0_choose 38 = .ok (.dup, 1) := dk_89 (dk_at dksX0_choose_1 15 rfl rfl)
theorem dX0_choose_39 : decode cX0_choose 39 = .ok (.iconst 0, 1) := dk_3 (dk_at dksX0_choose_1 16 rfl rfl)
theorem dX0_choose_40 : decode cX0_choose 40 = .ok (.iload_n 1, 1) := dk_27 (dk_at dksX0_choose_1 17 rfl rfl)
theorem dX0_choose_41 : decode cX0_choose 41 = .ok (.iastore, 1) := dk_79 (dk_at dksX0_choose_1 18 rfl rfl)
theorem dX0_choose_42 : decode cX0_choose 42 = .ok (.dup, 1) := dk_89 (dk_at dksX0_choose_1 19 rfl rfl)
theorem dX0_choose_43 : decode cX0_choose 43 = .ok (.iconst 1, 1) := dk_4 (dk_at dksX0_choose_1 20 rfl rfl)
theorem dX0_choose_44 : decode cX0_choose 44 = .ok (.iload_n 2, 1) := dk_28 (dk_at dksX0_choose_1 21 rfl rfl)
theorem dX0_choose_45 : decode cX0_choose 45 = .ok (.iastore, 1) := dk_79 (dk_at dksX0_choose_1 22 rfl rfl)
theorem dX0_choose_46 : decode cX0_choose 46 = .ok (.dup, 1) := dk_89 (dk_at dksX0_choose_1 23 rfl rfl)
theorem dX0_choose_47 : decode cX0_choose 47 = .ok (.iconst 2, 1) := dk_5 (dk_at dksX0_choose_2 0 rfl rfl)
theorem dX0_choose_48 : decode cX0_choose 48 = .ok (.iload_n 3, 1) := dk_29 (dk_at dksX0_choose_2 1 rfl rfl)
theorem dX0_choose_49 : decode cX0_choose 49 = .ok (.iastore, 1) := dk_79 (dk_at dksX0_choose_2 2 rfl rfl)
theorem dX0_choose_50 : decode cX0_choose 50 = .ok (.invokestatic 60, 3) := dk_184 0 60 (dk_at dksX0_choose_2 3 rfl rfl)
theorem dX0_choose_53 : decode cX0_choose 53 = .ok (.invokevirtual 66, 3) := dk_182 0 66 (dk_at dksX0_choose_2 6 rfl rfl)
theorem dX0_choose_56 : decode cX0_choose 56 = .ok (.goto 5, 3) := dk_167 0 5 (dk_at dksX0_choose_2 9 rfl rfl)
theorem dX0_choose_59 : decode cX0_choose 59 = .ok (.ldc 73, 2) := dk_18 73 (dk_at dksX0_choose_2 12 rfl rfl)
theorem dX0_choose_61 : decode cX0_choose 61 = .ok (.ireturn, 1) := dk_172 (dk_at dksX0_choose_2 14 rfl rfl)
abbrev cX0_turn : ByteArray := prog_1_method_10_code
def yX0_turn : MethodName := ⟨RX0, "turn", "(I)I"⟩
def dkwX0_turn_1 : List UInt8 := [182, 0, 66, 167, 0, 5, 18, 73, 172]
abbrev dktX0_turn_1 : List UInt8 := dkwX0_turn_1 ++ []
def dkwX0_turn_0 : List UInt8 := [42, 180, 0, 13, 27, 182, 0, 69, 153, 0, 21, 42, 8, 4, 188, 10, 89, 3, 27, 79, 184, 0, 60]
abbrev dktX0_turn_0 : List UInt8 := dkwX0_turn_0 ++ dktX0_turn_1
theorem dksX0_turn_0 : cX0_turn.data.toList.drop 0 = dktX0_turn_0 := by decide +kernel
theorem dksX0_turn_1 : cX0_turn.data.toList.drop 23 = dktX0_turn_1 := dk_seg dksX0_turn_0 23 rfl rfl
theorem dX0_turn_0 : decode cX0_turn 0 = .ok (.aload_n 0, 1) := dk_42 (dk_at dksX0_turn_0 0 rfl rfl)
theorem dX0_turn_1 : decode cX0_turn 1 = .ok (.getfield 13, 3) := dk_180 0 13 (dk_at dksX0_turn_0 1 rfl rfl)
theorem dX0_turn_4 : decode cX0_turn 4 = .ok (.iload_n 1, 1) := dk_27 (dk_at dksX0_turn_0 4 rfl rfl)
theorem dX0_turn_5 : decode cX0_turn 5 = .ok (.invokevirtual 69, 3) := dk_182 0 69 (dk_at dksX0_turn_0 5 rfl rfl)
theorem dX0_turn_8 : decode cX0_turn 8 = .ok (.ifCond .eq 21, 3) := dk_153 0 21 (dk_at dksX0_turn_0 8 rfl rfl)
theorem dX0_turn_11 : decode cX0_turn 11 = .ok (.aload_n 0, 1) := dk_42 (dk_at dksX0_turn_0 11 rfl rfl)
theorem dX0_turn_12 : decode cX0_turn 12 = .ok (.iconst 5, 1) := dk_8 (dk_at dksX0_turn_0 12 rfl rfl)
theorem dX0_turn_13 : decode cX0_turn 13 = .ok (.iconst 1, 1) := dk_4 (dk_at dksX0_turn_0 13 rfl rfl)
theorem dX0_turn_14 : decode cX0_turn 14 = .ok (.newarray .int, 2) := dk_188_10 (dk_at dksX0_turn_0 14 rfl rfl)
theorem dX0_turn_16 : decode cX0_turn 16 = .ok (.dup, 1) := dk_89 (dk_at dksX0_turn_0 16 rfl rfl)
theorem dX0_turn_17 : decode cX0_turn 17 = .ok (.iconst 0, 1) := dk_3 (dk_at dksX0_turn_0 17 rfl rfl)
theorem dX0_turn_18 : decode cX0_turn 18 = .ok (.iload_n 1, 1) := dk_27 (dk_at dksX0_turn_0 18 rfl rfl)
theorem dX0_turn_19 : decode cX0_turn 19 = .ok (.iastore, 1) := dk_79 (dk_at dksX0_turn_0 19 rfl rfl)
theorem dX0_turn_20 : decode cX0_turn 20 = .ok (.invokestatic 60, 3) := dk_184 0 60 (dk_at dksX0_turn_0 20 rfl rfl)
theorem dX0_turn_23 : decode cX0_turn 23 = .ok (.invokevirtual 66, 3) := dk_182 0 66 (dk_at dksX0_turn_1 0 rfl rfl)
theorem dX0_turn_26 : decode cX0_turn 26 = .ok (.goto 5, 3) := dk_167 0 5 (dk_at dksX0_turn_1 3 rfl rfl)
theorem dX0_turn_29 : decode cX0_turn 29 = .ok (.ldc 73, 2) := dk_18 73 (dk_at dksX0_turn_1 6 rfl rfl)
theorem dX0_turn_31 : decode cX0_turn 31 = .ok (.ireturn, 1) := dk_172 (dk_at dksX0_turn_1 8 rfl rfl)
abbrev cX0_delay : ByteArray := prog_1_method_11_code
def yX0_delay : MethodName := ⟨RX0, "delay", "(II)I"⟩
def dkwX0_delay_2 : List UInt8 := [18, 3, 172]
abbrev dktX0_delay_2 : List UInt8 := dkwX0_delay_2 ++ []
def dkwX0_delay_1 : List UInt8 := [42, 16, 6, 5, 188, 10, 89, 3, 27, 79, 89, 4, 28, 79, 184, 0, 60, 182, 0, 66, 167, 0, 5]
abbrev dktX0_delay_1 : List UInt8 := dkwX0_delay_1 ++ dktX0_delay_2
def dkwX0_delay_0 : List UInt8 := [42, 180, 0, 13, 27, 182, 0, 69, 154, 0, 6, 18, 73, 172, 28, 4, 16, 60, 184, 0, 56, 153, 0, 26]
abbrev dktX0_delay_0 : List UInt8 := dkwX0_delay_0 ++ dktX0_delay_1
theorem dksX0_delay_0 : cX0_delay.data.toList.drop 0 = dktX0_delay_0 := by decide +kernel
theorem dksX0_delay_1 : cX0_delay.data.toList.drop 24 = dktX0_delay_1 := dk_seg dksX0_delay_0 24 rfl rfl
theorem dksX0_delay_2 : cX0_delay.data.toList.drop 47 = dktX0_delay_2 := dk_seg dksX0_delay_1 23 rfl rfl
theorem dX0_delay_0 : decode cX0_delay 0 = .ok (.aload_n 0, 1) := dk_42 (dk_at dksX0_delay_0 0 rfl rfl)
theorem dX0_delay_1 : decode cX0_delay 1 = .ok (.getfield 13, 3) := dk_180 0 13 (dk_at dksX0_delay_0 1 rfl rfl)
theorem dX0_delay_4 : decode cX0_delay 4 = .ok (.iload_n 1, 1) := dk_27 (dk_at dksX0_delay_0 4 rfl rfl)
theorem dX0_delay_5 : decode cX0_delay 5 = .ok (.invokevirtual 69, 3) := dk_182 0 69 (dk_at dksX0_delay_0 5 rfl rfl)
theorem dX0_delay_8 : decode cX0_delay 8 = .ok (.ifCond .ne 6, 3) := dk_154 0 6 (dk_at dksX0_delay_0 8 rfl rfl)
theorem dX0_delay_11 : decode cX0_delay 11 = .ok (.ldc 73, 2) := dk_18 73 (dk_at dksX0_delay_0 11 rfl rfl)
theorem dX0_delay_13 : decode cX0_delay 13 = .ok (.ireturn, 1) := dk_172 (dk_at dksX0_delay_0 13 rfl rfl)
theorem dX0_delay_14 : decode cX0_delay 14 = .ok (.iload_n 2, 1) := dk_28 (dk_at dksX0_delay_0 14 rfl rfl)
theorem dX0_delay_15 : decode cX0_delay 15 = .ok (.iconst 1, 1) := dk_4 (dk_at dksX0_delay_0 15 rfl rfl)
theorem dX0_delay_16 : decode cX0_delay 16 = .ok (.bipush 60, 2) := dk_16 60 (dk_at dksX0_delay_0 16 rfl rfl)
theorem dX0_delay_18 : decode cX0_delay 18 = .ok (.invokestatic 56, 3) := dk_184 0 56 (dk_at dksX0_delay_0 18 rfl rfl)
theorem dX0_delay_21 : decode cX0_delay 21 = .ok (.ifCond .eq 26, 3) := dk_153 0 26 (dk_at dksX0_delay_0 21 rfl rfl)
theorem dX0_delay_24 : decode cX0_delay 24 = .ok (.aload_n 0, 1) := dk_42 (dk_at dksX0_delay_1 0 rfl rfl)
theorem dX0_delay_25 : decode cX0_delay 25 = .ok (.bipush 6, 2) := dk_16 6 (dk_at dksX0_delay_1 1 rfl rfl)
theorem dX0_delay_27 : decode cX0_delay 27 = .ok (.iconst 2, 1) := dk_5 (dk_at dksX0_delay_1 3 rfl rfl)
theorem dX0_delay_28 : decode cX0_delay 28 = .ok (.newarray .int, 2) := dk_188_10 (dk_at dksX0_delay_1 4 rfl rfl)
theorem dX0_delay_30 : decode cX0_delay 30 = .ok (.dup, 1) := dk_89 (dk_at dksX0_delay_1 6 rfl rfl)
theorem dX0_delay_31 : decode cX0_delay 31 = .ok (.iconst 0, 1) := dk_3 (dk_at dksX0_delay_1 7 rfl rfl)
theorem dX0_delay_32 : decode cX0_delay 32 = .ok (.iload_n 1, 1) := dk_27 (dk_at dksX0_delay_1 8 rfl rfl)
theorem dX0_delay_33 : decode cX0_delay 33 = .ok (.iastore, 1) := dk_79 (dk_at dksX0_delay_1 9 rfl rfl)
theorem dX0_delay_34 : decode cX0_delay 34 = .ok (.dup, 1) := dk_89 (dk_at dksX0_delay_1 10 rfl rfl)
theorem dX0_delay_35 : decode cX0_delay 35 = .ok (.iconst 1, 1) := dk_4 (dk_at dksX0_delay_1 11 rfl rfl)
theorem dX0_delay_36 : decode cX0_delay 36 = .ok (.iload_n 2, 1) := dk_28 (dk_at dksX0_delay_1 12 rfl rfl)
theorem dX0_delay_37 : decode cX0_delay 37 = .ok (.iastore, 1) := dk_79 (dk_at dksX0_delay_1 13 rfl rfl)
theorem dX0_delay_38 : decode cX0_delay 38 = .ok (.invokestatic 60, 3) := dk_184 0 60 (dk_at dksX0_delay_1 14 rfl rfl)
theorem dX0_delay_41 : decode cX0_delay 41 = .ok (.invokevirtual 66, 3) := dk_182 0 66 (dk_at dksX0_delay_1 17 rfl rfl)
theorem dX0_delay_44 : decode cX0_delay 44 = .ok (.goto 5, 3) := dk_167 0 5 (dk_at dksX0_delay_1 20 rfl rfl)
theorem dX0_delay_47 : decode cX0_delay 47 = .ok (.ldc 3, 2) := dk_18 3 (dk_at dksX0_delay_2 0 rfl rfl)
theorem dX0_delay_49 : decode cX0_delay 49 = .ok (.ireturn, 1) := dk_172 (dk_at dksX0_delay_2 2 rfl rfl)
abbrev cX0_reseed : ByteArray := prog_1_method_12_code
def yX0_reseed : MethodName := ⟨RX0, "reseed", "(III)I"⟩
def dkwX0_reseed_6 : List UInt8 := [3, 185, 0, 81, 2, 0, 182, 0, 52, 172]
abbrev dktX0_reseed_6 : List UInt8 := dkwX0_reseed_6 ++ []
def dkwX0_reseed_5 : List UInt8 := [188, 10, 89, 3, 28, 79, 89, 4, 29, 79, 184, 0, 60, 185, 0, 86, 3, 0, 87, 42, 25, 5, 25, 4]
abbrev dktX0_reseed_5 : List UInt8 := dkwX0_reseed_5 ++ dktX0_reseed_6
def dkwX0_reseed_4 : List UInt8 := [18, 85, 172, 187, 0, 10, 89, 42, 180, 0, 13, 183, 0, 49, 58, 5, 25, 5, 180, 0, 45, 27, 3, 5]
abbrev dktX0_reseed_4 : List UInt8 := dkwX0_reseed_4 ++ dktX0_reseed_5
def dkwX0_reseed_3 : List UInt8 := [25, 4, 3, 185, 0, 81, 2, 0, 28, 160, 0, 18, 25, 4, 4, 185, 0, 81, 2, 0, 29, 160, 0, 6]
abbrev dktX0_reseed_3 : List UInt8 := dkwX0_reseed_3 ++ dktX0_reseed_4
def dkwX0_reseed_2 : List UInt8 := [27, 185, 0, 74, 2, 0, 192, 0, 61, 58, 4, 25, 4, 185, 0, 77, 1, 0, 153, 0, 6, 18, 80, 172]
abbrev dktX0_reseed_2 : List UInt8 := dkwX0_reseed_2 ++ dktX0_reseed_3
def dkwX0_reseed_1 : List UInt8 := [153, 0, 14, 29, 4, 17, 0, 255, 184, 0, 56, 154, 0, 6, 18, 3, 172, 42, 180, 0, 13, 180, 0, 45]
abbrev dktX0_reseed_1 : List UInt8 := dkwX0_reseed_1 ++ dktX0_reseed_2
def dkwX0_reseed_0 : List UInt8 := [42, 180, 0, 13, 27, 182, 0, 69, 154, 0, 6, 18, 73, 172, 28, 3, 17, 1, 0, 184, 0, 56]
abbrev dktX0_reseed_0 : List UInt8 := dkwX0_reseed_0 ++ dktX0_reseed_1
theorem dksX0_reseed_0 : cX0_reseed.data.toList.drop 0 = dktX0_reseed_0 := by decide +kernel
theorem dksX0_reseed_1 : cX0_reseed.data.toList.drop 22 = dktX0_reseed_1 := dk_seg dksX0_reseed_0 22 rfl rfl
theorem dksX0_reseed_2 : cX0_reseed.data.toList.drop 46 = dktX0_reseed_2 := dk_seg dksX0_reseed_1 24 rfl rfl
theorem dksX0_reseed_3 : cX0_reseed.data.toList.drop 70 = dktX0_reseed_3 := dk_seg dksX0_reseed_2 24 rfl rfl
theorem dksX0_reseed_4 : cX0_reseed.data.toList.drop 94 = dktX0_reseed_4 := dk_seg dksX0_reseed_3 24 rfl rfl
theorem dksX0_reseed_5 : cX0_reseed.data.toList.drop 118 = dktX0_reseed_5 := dk_seg dksX0_reseed_4 24 rfl rfl
theorem dksX0_reseed_6 : cX0_reseed.data.toList.drop 142 = dktX0_reseed_6 := dk_seg dksX0_reseed_5 24 rfl rfl
theorem dX0_reseed_0 : decode cX0_reseed 0 = .ok (.aload_n 0, 1) := dk_42 (dk_at dksX0_reseed_0 0 rfl rfl)
theorem dX0_reseed_1 : decode cX0_reseed 1 = .ok (.getfield 13, 3) := dk_180 0 13 (dk_at dksX0_reseed_0 1 rfl rfl)
theorem dX0_reseed_4 : decode cX0_reseed 4 = .ok (.iload_n 1, 1) := dk_27 (dk_at dksX0_reseed_0 4 rfl rfl)
theorem dX0_reseed_5 : decode cX0_reseed 5 = .ok (.invokevirtual 69, 3) := dk_182 0 69 (dk_at dksX0_reseed_0 5 rfl rfl)
theorem dX0_reseed_8 : decode cX0_reseed 8 = .ok (.ifCond .ne 6, 3) := dk_154 0 6 (dk_at dksX0_reseed_0 8 rfl rfl)
theorem dX0_reseed_11 : decode cX0_reseed 11 = .ok (.ldc 73, 2) := dk_18 73 (dk_at dksX0_reseed_0 11 rfl rfl)
theorem dX0_reseed_13 : decode cX0_reseed 13 = .ok (.ireturn, 1) := dk_172 (dk_at dksX0_reseed_0 13 rfl rfl)
theorem dX0_reseed_14 : decode cX0_reseed 14 = .ok (.iload_n 2, 1) := dk_28 (dk_at dksX0_reseed_0 14 rfl rfl)
theorem dX0_reseed_15 : decode cX0_reseed 15 = .ok (.iconst 0, 1) := dk_3 (dk_at dksX0_reseed_0 15 rfl rfl)
theorem dX0_reseed_16 : decode cX0_reseed 16 = .ok (.sipush 256, 3) := dk_17 1 0 (dk_at dksX0_reseed_0 16 rfl rfl)
theorem dX0_reseed_19 : decode cX0_reseed 19 = .ok (.invokestatic 56, 3) := dk_184 0 56 (dk_at dksX0_reseed_0 19 rfl rfl)
theorem dX0_reseed_22 : decode cX0_reseed 22 = .ok (.ifCond .eq 14, 3) := dk_153 0 14 (dk_at dksX0_reseed_1 0 rfl rfl)
theorem dX0_reseed_25 : decode cX0_reseed 25 = .ok (.iload_n 3, 1) := dk_29 (dk_at dksX0_reseed_1 3 rfl rfl)
theorem dX0_reseed_26 : decode cX0_reseed 26 = .ok (.iconst 1, 1) := dk_4 (dk_at dksX0_reseed_1 4 rfl rfl)
theorem dX0_reseed_27 : decode cX0_reseed 27 = .ok (.sipush 255, 3) := dk_17 0 255 (dk_at dksX0_reseed_1 5 rfl rfl)
theorem dX0_reseed_30 : decode cX0_reseed 30 = .ok (.invokestatic 56, 3) := dk_184 0 56 (dk_at dksX0_reseed_1 8 rfl rfl)
theorem dX0_reseed_33 : decode cX0_reseed 33 = .ok (.ifCond .ne 6, 3) := dk_154 0 6 (dk_at dksX0_reseed_1 11 rfl rfl)
theorem dX0_reseed_36 : decode cX0_reseed 36 = .ok (.ldc 3, 2) := dk_18 3 (dk_at dksX0_reseed_1 14 rfl rfl)
theorem dX0_reseed_38 : decode cX0_reseed 38 = .ok (.ireturn, 1) := dk_172 (dk_at dksX0_reseed_1 16 rfl rfl)
theorem dX0_reseed_39 : decode cX0_reseed 39 = .ok (.aload_n 0, 1) := dk_42 (dk_at dksX0_reseed_1 17 rfl rfl)
theorem dX0_reseed_40 : decode cX0_reseed 40 = .ok (.getfield 13, 3) := dk_180 0 13 (dk_at dksX0_reseed_1 18 rfl rfl)
theorem dX0_reseed_43 : decode cX0_reseed 43 = .ok (.getfield 45, 3) := dk_180 0 45 (dk_at dksX0_reseed_1 21 rfl rfl)
theorem dX0_reseed_46 : decode cX0_reseed 46 = .ok (.iload_n 1, 1) := dk_27 (dk_at dksX0_reseed_2 0 rfl rfl)
theorem dX0_reseed_47 : decode cX0_reseed 47 = .ok (.invokeinterface 74 2, 5) := by decide +kernel
theorem dX0_reseed_52 : decode cX0_reseed 52 = .ok (.checkcast 61, 3) := dk_192 0 61 (dk_at dksX0_reseed_2 6 rfl rfl)
theorem dX0_reseed_55 : decode cX0_reseed 55 = .ok (.astore 4, 2) := dk_58 4 (dk_at dksX0_reseed_2 9 rfl rfl)
theorem dX0_reseed_57 : decode cX0_reseed 57 = .ok (.aload 4, 2) := dk_25 4 (dk_at dksX0_reseed_2 11 rfl rfl)
theorem dX0_reseed_59 : decode cX0_reseed 59 = .ok (.invokeinterface 77 1, 5) := by decide +kernel
theorem dX0_reseed_64 : decode cX0_reseed 64 = .ok (.ifCond .eq 6, 3) := dk_153 0 6 (dk_at dksX0_reseed_2 18 rfl rfl)
theorem dX0_reseed_67 : decode cX0_reseed 67 = .ok (.ldc 80, 2) := dk_18 80 (dk_at dksX0_reseed_2 21 rfl rfl)
theorem dX0_reseed_69 : decode cX0_reseed 69 = .ok (.ireturn, 1) := dk_172 (dk_at dksX0_reseed_2 23 rfl rfl)
theorem dX0_reseed_70 : decode cX0_reseed 70 = .ok (.aload 4, 2) := dk_25 4 (dk_at dksX0_reseed_3 0 rfl rfl)
theorem dX0_reseed_72 : decode cX0_reseed 72 = .ok (.iconst 0, 1) := dk_3 (dk_at dksX0_reseed_3 2 rfl rfl)
theorem dX0_reseed_73 : decode cX0_reseed 73 = .ok (.invokeinterface 81 2, 5) := by decide +kernel
theorem dX0_reseed_78 : decode cX0_reseed 78 = .ok (.iload_n 2, 1) := dk_28 (dk_at dksX0_reseed_3 8 rfl rfl)
theorem dX0_reseed_79 : decode cX0_reseed 79 = .ok (.if_icmp .ne 18, 3) := dk_160 0 18 (dk_at dksX0_reseed_3 9 rfl rfl)
theorem dX0_reseed_82 : decode cX0_reseed 82 = .ok (.aload 4, 2) := dk_25 4 (dk_at dksX0_reseed_3 12 rfl rfl)
theorem dX0_reseed_84 : decode cX0_reseed 84 = .ok (.iconst 1, 1) := dk_4 (dk_at dksX0_reseed_3 14 rfl rfl)
theorem dX0_reseed_85 : decode cX0_reseed 85 = .ok (.invokeinterface 81 2, 5) := by decide +kernel
theorem dX0_reseed_90 : decode cX0_reseed 90 = .ok (.iload_n 3, 1) := dk_29 (dk_at dksX0_reseed_3 20 rfl rfl)
theorem dX0_reseed_91 : decode cX0_reseed 91 = .ok (.if_icmp .ne 6, 3) := dk_160 0 6 (dk_at dksX0_reseed_3 21 rfl rfl)
theorem dX0_reseed_94 : decode cX0_reseed 94 = .ok (.ldc 85, 2) := dk_18 85 (dk_at dksX0_reseed_4 0 rfl rfl)
theorem dX0_reseed_96 : decode cX0_reseed 96 = .ok (.ireturn, 1) := dk_172 (dk_at dksX0_reseed_4 2 rfl rfl)
theorem dX0_reseed_97 : decode cX0_reseed 97 = .ok (.new 10, 3) := dk_187 0 10 (dk_at dksX0_reseed_4 3 rfl rfl)
theorem dX0_reseed_100 : decode cX0_reseed 100 = .ok (.dup, 1) := dk_89 (dk_at dksX0_reseed_4 6 rfl rfl)
theorem dX0_reseed_101 : decode cX0_reseed 101 = .ok (.aload_n 0, 1) := dk_42 (dk_at dksX0_reseed_4 7 rfl rfl)
theorem dX0_reseed_102 : decode cX0_reseed 102 = .ok (.getfield 13, 3) := dk_180 0 13 (dk_at dksX0_reseed_4 8 rfl rfl)
theorem dX0_reseed_105 : decode cX0_reseed 105 = .ok (.invokespecial 49, 3) := dk_183 0 49 (dk_at dksX0_reseed_4 11 rfl rfl)
theorem dX0_reseed_108 : decode cX0_reseed 108 = .ok (.astore 5, 2) := dk_58 5 (dk_at dksX0_reseed_4 14 rfl rfl)
theorem dX0_reseed_110 : decode cX0_reseed 110 = .ok (.aload 5, 2) := dk_25 5 (dk_at dksX0_reseed_4 16 rfl rfl)
theorem dX0_reseed_112 : decode cX0_reseed 112 = .ok (.getfield 45, 3) := dk_180 0 45 (dk_at dksX0_reseed_4 18 rfl rfl)
theorem dX0_reseed_115 : decode cX0_reseed 115 = .ok (.iload_n 1, 1) := dk_27 (dk_at dksX0_reseed_4 21 rfl rfl)
theorem dX0_reseed_116 : decode cX0_reseed 116 = .ok (.iconst 0, 1) := dk_3 (dk_at dksX0_reseed_4 22 rfl rfl)
theorem dX0_reseed_117 : decode cX0_reseed 117 = .ok (.iconst 2, 1) := dk_5 (dk_at dksX0_reseed_4 23 rfl rfl)
theorem dX0_reseed_118 : decode cX0_reseed 118 = .ok (.newarray .int, 2) := dk_188_10 (dk_at dksX0_reseed_5 0 rfl rfl)
theorem dX0_reseed_120 : decode cX0_reseed 120 = .ok (.dup, 1) := dk_89 (dk_at dksX0_reseed_5 2 rfl rfl)
theorem dX0_reseed_121 : decode cX0_reseed 121 = .ok (.iconst 0, 1) := dk_3 (dk_at dksX0_reseed_5 3 rfl rfl)
theorem dX0_reseed_122 : decode cX0_reseed 122 = .ok (.iload_n 2, 1) := dk_28 (dk_at dksX0_reseed_5 4 rfl rfl)
theorem dX0_reseed_123 : decode cX0_reseed 123 = .ok (.iastore, 1) := dk_79 (dk_at dksX0_reseed_5 5 rfl rfl)
theorem dX0_reseed_124 : decode cX0_reseed 124 = .ok (.dup, 1) := dk_89 (dk_at dksX0_reseed_5 6 rfl rfl)
theorem dX0_reseed_125 : decode cX0_reseed 125 = .ok (.iconst 1, 1) := dk_4 (dk_at dksX0_reseed_5 7 rfl rfl)
theorem dX0_reseed_126 : decode cX0_reseed 126 = .ok (.iload_n 3, 1) := dk_29 (dk_at dksX0_reseed_5 8 rfl rfl)
theorem dX0_reseed_127 : decode cX0_reseed 127 = .ok (.iastore, 1) := dk_79 (dk_at dksX0_reseed_5 9 rfl rfl)
theorem dX0_reseed_128 : decode cX0_reseed 128 = .ok (.invokestatic 60, 3) := dk_184 0 60 (dk_at dksX0_reseed_5 10 rfl rfl)
theorem dX0_reseed_131 : decode cX0_reseed 131 = .ok (.invokeinterface 86 3, 5) := by decide +kernel
theorem dX0_reseed_136 : decode cX0_reseed 136 = .ok (.pop, 1) := dk_87 (dk_at dksX0_reseed_5 18 rfl rfl)
theorem dX0_reseed_137 : decode cX0_reseed 137 = .ok (.aload_n 0, 1) := dk_42 (dk_at dksX0_reseed_5 19 rfl rfl)
theorem dX0_reseed_138 : decode cX0_reseed 138 = .ok (.aload 5, 2) := dk_25 5 (dk_at dksX0_reseed_5 20 rfl rfl)
theorem dX0_reseed_140 : decode cX0_reseed 140 = .ok (.aload 4, 2) := dk_25 4 (dk_at dksX0_reseed_5 22 rfl rfl)
theorem dX0_reseed_142 : decode cX0_reseed 142 = .ok (.iconst 0, 1) := dk_3 (dk_at dksX0_reseed_6 0 rfl rfl)
theorem dX0_reseed_143 : decode cX0_reseed 143 = .ok (.invokeinterface 81 2, 5) := by decide +kernel
theorem dX0_reseed_148 : decode cX0_reseed 148 = .ok (.invokevirtual 52, 3) := dk_182 0 52 (dk_at dksX0_reseed_6 6 rfl rfl)
theorem dX0_reseed_151 : decode cX0_reseed 151 = .ok (.ireturn, 1) := dk_172 (dk_at dksX0_reseed_6 9 rfl rfl)
abbrev cX0_removeLast : ByteArray := prog_1_method_13_code
def yX0_removeLast : MethodName := ⟨RX0, "removeLast", "()I"⟩
def dkwX0_removeLast_2 : List UInt8 := [44, 27, 182, 0, 52, 172]
abbrev dktX0_removeLast_2 : List UInt8 := dkwX0_removeLast_2 ++ []
def dkwX0_removeLast_1 : List UInt8 := [187, 0, 10, 89, 42, 180, 0, 13, 183, 0, 49, 77, 44, 180, 0, 45, 27, 185, 0, 37, 2, 0, 87, 42]
abbrev dktX0_removeLast_1 : List UInt8 := dkwX0_removeLast_1 ++ dktX0_removeLast_2
def dkwX0_removeLast_0 : List UInt8 := [42, 180, 0, 13, 180, 0, 45, 185, 0, 31, 1, 0, 4, 100, 60, 27, 156, 0, 6, 18, 85, 172]
abbrev dktX0_removeLast_0 : List UInt8 := dkwX0_removeLast_0 ++ dktX0_removeLast_1
theorem dksX0_removeLast_0 : cX0_removeLast.data.toList.drop 0 = dktX0_removeLast_0 := by decide +kernel
theorem dksX0_removeLast_1 : cX0_removeLast.data.toList.drop 22 = dktX0_removeLast_1 := dk_seg dksX0_removeLast_0 22 rfl rfl
theorem dksX0_removeLast_2 : cX0_removeLast.data.toList.drop 46 = dktX0_removeLast_2 := dk_seg dksX0_removeLast_1 24 rfl rfl
theorem dX0_removeLast_0 : decode cX0_removeLast 0 = .ok (.aload_n 0, 1) := dk_42 (dk_at dksX0_removeLast_0 0 rfl rfl)
theorem dX0_removeLast_1 : decode cX0_removeLast 1 = .ok (.getfield 13, 3) := dk_180 0 13 (dk_at dksX0_removeLast_0 1 rfl rfl)
theorem dX0_removeLast_4 : decode cX0_removeLast 4 = .ok (.getfield 45, 3) := dk_180 0 45 (dk_at dksX0_removeLast_0 4 rfl rfl)
theorem dX0_removeLast_7 : decode cX0_removeLast 7 = .ok (.invokeinterface 31 1, 5) := by decide +kernel
theorem dX0_removeLast_12 : decode cX0_removeLast 12 = .ok (.iconst 1, 1) := dk_4 (dk_at dksX0_removeLast_0 12 rfl rfl)
theorem dX0_removeLast_13 : decode cX0_removeLast 13 = .ok (.isub, 1) := dk_100 (dk_at dksX0_removeLast_0 13 rfl rfl)
theorem dX0_removeLast_14 : decode cX0_removeLast 14 = .ok (.istore_n 1, 1) := dk_60 (dk_at dksX0_removeLast_0 14 rfl rfl)
theorem dX0_removeLast_15 : decode cX0_removeLast 15 = .ok (.iload_n 1, 1) := dk_27 (dk_at dksX0_removeLast_0 15 rfl rfl)
theorem dX0_removeLast_16 : decode cX0_removeLast 16 = .ok (.ifCond .ge 6, 3) := dk_156 0 6 (dk_at dksX0_removeLast_0 16 rfl rfl)
theorem dX0_removeLast_19 : decode cX0_removeLast 19 = .ok (.ldc 85, 2) := dk_18 85 (dk_at dksX0_removeLast_0 19 rfl rfl)
theorem dX0_removeLast_21 : decode cX0_removeLast 21 = .ok (.ireturn, 1) := dk_172 (dk_at dksX0_removeLast_0 21 rfl rfl)
theorem dX0_removeLast_22 : decode cX0_removeLast 22 = .ok (.new 10, 3) := dk_187 0 10 (dk_at dksX0_removeLast_1 0 rfl rfl)
theorem dX0_removeLast_25 : decode cX0_removeLast 25 = .ok (.dup, 1) := dk_89 (dk_at dksX0_removeLast_1 3 rfl rfl)
theorem dX0_removeLast_26 : decode cX0_removeLast 26 = .ok (.aload_n 0, 1) := dk_42 (dk_at dksX0_removeLast_1 4 rfl rfl)
theorem dX0_removeLast_27 : decode cX0_removeLast 27 = .ok (.getfield 13, 3) := dk_180 0 13 (dk_at dksX0_removeLast_1 5 rfl rfl)
theorem dX0_removeLast_30 : decode cX0_removeLast 30 = .ok (.invokespecial 49, 3) := dk_183 0 49 (dk_at dksX0_removeLast_1 8 rfl rfl)
theorem dX0_removeLast_33 : decode cX0_removeLast 33 = .ok (.astore_n 2, 1) := dk_77 (dk_at dksX0_removeLast_1 11 rfl rfl)
theorem dX0_removeLast_34 : decode cX0_removeLast 34 = .ok (.aload_n 2, 1) := dk_44 (dk_at dksX0_removeLast_1 12 rfl rfl)
theorem dX0_removeLast_35 : decode cX0_removeLast 35 = .ok (.getfield 45, 3) := dk_180 0 45 (dk_at dksX0_removeLast_1 13 rfl rfl)
theorem dX0_removeLast_38 : decode cX0_removeLast 38 = .ok (.iload_n 1, 1) := dk_27 (dk_at dksX0_removeLast_1 16 rfl rfl)
theorem dX0_removeLast_39 : decode cX0_removeLast 39 = .ok (.invokeinterface 37 2, 5) := by decide +kernel
theorem dX0_removeLast_44 : decode cX0_removeLast 44 = .ok (.pop, 1) := dk_87 (dk_at dksX0_removeLast_1 22 rfl rfl)
theorem dX0_removeLast_45 : decode cX0_removeLast 45 = .ok (.aload_n 0, 1) := dk_42 (dk_at dksX0_removeLast_1 23 rfl rfl)
theorem dX0_removeLast_46 : decode cX0_removeLast 46 = .ok (.aload_n 2, 1) := dk_44 (dk_at dksX0_removeLast_2 0 rfl rfl)
theorem dX0_removeLast_47 : decode cX0_removeLast 47 = .ok (.iload_n 1, 1) := dk_27 (dk_at dksX0_removeLast_2 1 rfl rfl)
theorem dX0_removeLast_48 : decode cX0_removeLast 48 = .ok (.invokevirtual 52, 3) := dk_182 0 52 (dk_at dksX0_removeLast_2 2 rfl rfl)
theorem dX0_removeLast_51 : decode cX0_removeLast 51 = .ok (.ireturn, 1) := dk_172 (dk_at dksX0_removeLast_2 5 rfl rfl)
abbrev cX0_setLength : ByteArray := prog_1_method_14_code
def yX0_setLength : MethodName := ⟨RX0, "setLength", "(I)I"⟩
def dkwX0_setLength_2 : List UInt8 := [45, 28, 182, 0, 52, 172]
abbrev dktX0_setLength_2 : List UInt8 := dkwX0_setLength_2 ++ []
def dkwX0_setLength_1 : List UInt8 := [160, 0, 6, 18, 85, 172, 187, 0, 10, 89, 42, 180, 0, 13, 183, 0, 49, 78, 45, 27, 181, 0, 90, 42]
abbrev dktX0_setLength_1 : List UInt8 := dkwX0_setLength_1 ++ dktX0_setLength_2
def dkwX0_setLength_0 : List UInt8 := [27, 4, 17, 3, 232, 184, 0, 56, 154, 0, 6, 18, 3, 172, 42, 180, 0, 13, 180, 0, 90, 61, 28, 27]
abbrev dktX0_setLength_0 : List UInt8 := dkwX0_setLength_0 ++ dktX0_setLength_1
theorem dksX0_setLength_0 : cX0_setLength.data.toList.drop 0 = dktX0_setLength_0 := by decide +kernel
theorem dksX0_setLength_1 : cX0_setLength.data.toList.drop 24 = dktX0_setLength_1 := dk_seg dksX0_setLength_0 24 rfl rfl
theorem dksX0_setLength_2 : cX0_setLength.data.toList.drop 48 = dktX0_setLength_2 := dk_seg dksX0_setLength_1 24 rfl rfl
theorem dX0_setLength_0 : decode cX0_setLength 0 = .ok (.iload_n 1, 1) := dk_27 (dk_at dksX0_setLength_0 0 rfl rfl)
theorem dX0_setLength_1 : decode cX0_setLength 1 = .ok (.iconst 1, 1) := dk_4 (dk_at dksX0_setLength_0 1 rfl rfl)
theorem dX0_setLength_2 : decode cX0_setLength 2 = .ok (.sipush 1000, 3) := dk_17 3 232 (dk_at dksX0_setLength_0 2 rfl rfl)
theorem dX0_setLength_5 : decode cX0_setLength 5 = .ok (.invokestatic 56, 3) := dk_184 0 56 (dk_at dksX0_setLength_0 5 rfl rfl)
theorem dX0_setLength_8 : decode cX0_setLength 8 = .ok (.ifCond .ne 6, 3) := dk_154 0 6 (dk_at dksX0_setLength_0 8 rfl rfl)
theorem dX0_setLength_11 : decode cX0_setLength 11 = .ok (.ldc 3, 2) := dk_18 3 (dk_at dksX0_setLength_0 11 rfl rfl)
theorem dX0_setLength_13 : decode cX0_setLength 13 = .ok (.ireturn, 1) := dk_172 (dk_at dksX0_setLength_0 13 rfl rfl)
theorem dX0_setLength_14 : decode cX0_setLength 14 = .ok (.aload_n 0, 1) := dk_42 (dk_at dksX0_setLength_0 14 rfl rfl)
theorem dX0_setLength_15 : decode cX0_setLength 15 = .ok (.getfield 13, 3) := dk_180 0 13 (dk_at dksX0_setLength_0 15 rfl rfl)
theorem dX0_setLength_18 : decode cX0_setLength 18 = .ok (.getfield 90, 3) := dk_180 0 90 (dk_at dksX0_setLength_0 18 rfl rfl)
theorem dX0_setLength_21 : decode cX0_setLength 21 = .ok (.istore_n 2, 1) := dk_61 (dk_at dksX0_setLength_0 21 rfl rfl)
theorem dX0_setLength_22 : decode cX0_setLength 22 = .ok (.iload_n 2, 1) := dk_28 (dk_at dksX0_setLength_0 22 rfl rfl)
theorem dX0_setLength_23 : decode cX0_setLength 23 = .ok (.iload_n 1, 1) := dk_27 (dk_at dksX0_setLength_0 23 rfl rfl)
theorem dX0_setLength_24 : decode cX0_setLength 24 = .ok (.if_icmp .ne 6, 3) := dk_160 0 6 (dk_at dksX0_setLength_1 0 rfl rfl)
theorem dX0_setLength_27 : decode cX0_setLength 27 = .ok (.ldc 85, 2) := dk_18 85 (dk_at dksX0_setLength_1 3 rfl rfl)
theorem dX0_setLength_29 : decode cX0_setLength 29 = .ok (.ireturn, 1) := dk_172 (dk_at dksX0_setLength_1 5 rfl rfl)
theorem dX0_setLength_30 : decode cX0_setLength 30 = .ok (.new 10, 3) := dk_187 0 10 (dk_at dksX0_setLength_1 6 rfl rfl)
theorem dX0_setLength_33 : decode cX0_setLength 33 = .ok (.dup, 1) := dk_89 (dk_at dksX0_setLength_1 9 rfl rfl)
theorem dX0_setLength_34 : decode cX0_setLength 34 = .ok (.aload_n 0, 1) := dk_42 (dk_at dksX0_setLength_1 10 rfl rfl)
theorem dX0_setLength_35 : decode cX0_setLength 35 = .ok (.getfield 13, 3) := dk_180 0 13 (dk_at dksX0_setLength_1 11 rfl rfl)
theorem dX0_setLength_38 : decode cX0_setLength 38 = .ok (.invokespecial 49, 3) := dk_183 0 49 (dk_at dksX0_setLength_1 14 rfl rfl)
theorem dX0_setLength_41 : decode cX0_setLength 41 = .ok (.astore_n 3, 1) := dk_78 (dk_at dksX0_setLength_1 17 rfl rfl)
theorem dX0_setLength_42 : decode cX0_setLength 42 = .ok (.aload_n 3, 1) := dk_45 (dk_at dksX0_setLength_1 18 rfl rfl)
theorem dX0_setLength_43 : decode cX0_setLength 43 = .ok (.iload_n 1, 1) := dk_27 (dk_at dksX0_setLength_1 19 rfl rfl)
theorem dX0_setLength_44 : decode cX0_setLength 44 = .ok (.putfield 90, 3) := dk_181 0 90 (dk_at dksX0_setLength_1 20 rfl rfl)
theorem dX0_setLength_47 : decode cX0_setLength 47 = .ok (.aload_n 0, 1) := dk_42 (dk_at dksX0_setLength_1 23 rfl rfl)
theorem dX0_setLength_48 : decode cX0_setLength 48 = .ok (.aload_n 3, 1) := dk_45 (dk_at dksX0_setLength_2 0 rfl rfl)
theorem dX0_setLength_49 : decode cX0_setLength 49 = .ok (.iload_n 2, 1) := dk_28 (dk_at dksX0_setLength_2 1 rfl rfl)
theorem dX0_setLength_50 : decode cX0_setLength 50 = .ok (.invokevirtual 52, 3) := dk_182 0 52 (dk_at dksX0_setLength_2 2 rfl rfl)
theorem dX0_setLength_53 : decode cX0_setLength 53 = .ok (.ireturn, 1) := dk_172 (dk_at dksX0_setLength_2 5 rfl rfl)
abbrev cX0_readCircuit : ByteArray := prog_1_method_15_code
def yX0_readCircuit : MethodName := ⟨RX0, "readCircuit", "()I"⟩
def dkwX0_readCircuit_6 : List UInt8 := [180, 0, 45, 185, 0, 31, 1, 0, 182, 0, 52, 172]
abbrev dktX0_readCircuit_6 : List UInt8 := dkwX0_readCircuit_6 ++ []
def dkwX0_readCircuit_5 : List UInt8 := [44, 180, 0, 45, 185, 0, 31, 1, 0, 16, 16, 164, 0, 8, 18, 48, 167, 0, 17, 42, 44, 44]
abbrev dktX0_readCircuit_5 : List UInt8 := dkwX0_readCircuit_5 ++ dktX0_readCircuit_6
def dkwX0_readCircuit_4 : List UInt8 := [180, 0, 107, 29, 185, 0, 74, 2, 0, 192, 0, 61, 185, 0, 41, 2, 0, 87, 132, 3, 1, 167, 255, 184]
abbrev dktX0_readCircuit_4 : List UInt8 := dkwX0_readCircuit_4 ++ dktX0_readCircuit_5
def dkwX0_readCircuit_3 : List UInt8 := [180, 0, 45, 185, 0, 31, 1, 0, 185, 0, 108, 2, 0, 154, 0, 6, 18, 73, 172, 44, 180, 0, 45, 43]
abbrev dktX0_readCircuit_3 : List UInt8 := dkwX0_readCircuit_3 ++ dktX0_readCircuit_4
def dkwX0_readCircuit_2 : List UInt8 := [185, 0, 31, 1, 0, 162, 0, 65, 43, 180, 0, 107, 29, 185, 0, 74, 2, 0, 192, 0, 61, 44]
abbrev dktX0_readCircuit_2 : List UInt8 := dkwX0_readCircuit_2 ++ dktX0_readCircuit_3
def dkwX0_readCircuit_1 : List UInt8 := [180, 0, 104, 100, 172, 187, 0, 10, 89, 42, 180, 0, 13, 183, 0, 49, 77, 3, 62, 29, 43, 180, 0, 107]
abbrev dktX0_readCircuit_1 : List UInt8 := dkwX0_readCircuit_1 ++ dktX0_readCircuit_2
def dkwX0_readCircuit_0 : List UInt8 := [187, 0, 94, 89, 42, 180, 0, 27, 183, 0, 96, 76, 43, 182, 0, 99, 154, 0, 11, 18, 103, 43]
abbrev dktX0_readCircuit_0 : List UInt8 := dkwX0_readCircuit_0 ++ dktX0_readCircuit_1
theorem dksX0_readCircuit_0 : cX0_readCircuit.data.toList.drop 0 = dktX0_readCircuit_0 := by decide +kernel
theorem dksX0_readCircuit_1 : cX0_readCircuit.data.toList.drop 22 = dktX0_readCircuit_1 := dk_seg dksX0_readCircuit_0 22 rfl rfl
theorem dksX0_readCircuit_2 : cX0_readCircuit.data.toList.drop 46 = dktX0_readCircuit_2 := dk_seg dksX0_readCircuit_1 24 rfl rfl
theorem dksX0_readCircuit_3 : cX0_readCircuit.data.toList.drop 68 = dktX0_readCircuit_3 := dk_seg dksX0_readCircuit_2 22 rfl rfl
theorem dksX0_readCircuit_4 : cX0_readCircuit.data.toList.drop 92 = dktX0_readCircuit_4 := dk_seg dksX0_readCircuit_3 24 rfl rfl
theorem dksX0_readCircuit_5 : cX0_readCircuit.data.toList.drop 116 = dktX0_readCircuit_5 := dk_seg dksX0_readCircuit_4 24 rfl rfl
theorem dksX0_readCircuit_6 : cX0_readCircuit.data.toList.drop 138 = dktX0_readCircuit_6 := dk_seg dksX0_readCircuit_5 22 rfl rfl
theorem dX0_readCircuit_0 : decode cX0_readCircuit 0 = .ok (.new 94, 3) := dk_187 0 94 (dk_at dksX0_readCircuit_0 0 rfl rfl)
theorem dX0_readCircuit_3 : decode cX0_readCircuit 3 = .ok (.dup, 1) := dk_89 (dk_at dksX0_readCircuit_0 3 rfl rfl)
theorem dX0_readCircuit_4 : decode cX0_readCircuit 4 = .ok (.aload_n 0, 1) := dk_42 (dk_at dksX0_readCircuit_0 4 rfl rfl)
theorem dX0_readCircuit_5 : decode cX0_readCircuit 5 = .ok (.getfield 27, 3) := dk_180 0 27 (dk_at dksX0_readCircuit_0 5 rfl rfl)
theorem dX0_readCircuit_8 : decode cX0_readCircuit 8 = .ok (.invokespecial 96, 3) := dk_183 0 96 (dk_at dksX0_readCircuit_0 8 rfl rfl)
theorem dX0_readCircuit_11 : decode cX0_readCircuit 11 = .ok (.astore_n 1, 1) := dk_76 (dk_at dksX0_readCircuit_0 11 rfl rfl)
theorem dX0_readCircuit_12 : decode cX0_readCircuit 12 = .ok (.aload_n 1, 1) := dk_43 (dk_at dksX0_readCircuit_0 12 rfl rfl)
theorem dX0_readCircuit_13 : decode cX0_readCircuit 13 = .ok (.invokevirtual 99, 3) := dk_182 0 99 (dk_at dksX0_readCircuit_0 13 rfl rfl)
theorem dX0_readCircuit_16 : decode cX0_readCircuit 16 = .ok (.ifCond .ne 11, 3) := dk_154 0 11 (dk_at dksX0_readCircuit_0 16 rfl rfl)
theorem dX0_readCircuit_19 : decode cX0_readCircuit 19 = .ok (.ldc 103, 2) := dk_18 103 (dk_at dksX0_readCircuit_0 19 rfl rfl)
theorem dX0_readCircuit_21 : decode cX0_readCircuit 21 = .ok (.aload_n 1, 1) := dk_43 (dk_at dksX0_readCircuit_0 21 rfl rfl)
theorem dX0_readCircuit_22 : decode cX0_readCircuit 22 = .ok (.getfield 104, 3) := dk_180 0 104 (dk_at dksX0_readCircuit_1 0 rfl rfl)
theorem dX0_readCircuit_25 : decode cX0_readCircuit 25 = .ok (.isub, 1) := dk_100 (dk_at dksX0_readCircuit_1 3 rfl rfl)
theorem dX0_readCircuit_26 : decode cX0_readCircuit 26 = .ok (.ireturn, 1) := dk_172 (dk_at dksX0_readCircuit_1 4 rfl rfl)
theorem dX0_readCircuit_27 : decode cX0_readCircuit 27 = .ok (.new 10, 3) := dk_187 0 10 (dk_at dksX0_readCircuit_1 5 rfl rfl)
theorem dX0_readCircuit_30 : decode cX0_readCircuit 30 = .ok (.dup, 1) := dk_89 (dk_at dksX0_readCircuit_1 8 rfl rfl)
theorem dX0_readCircuit_31 : decode cX0_readCircuit 31 = .ok (.aload_n 0, 1) := dk_42 (dk_at dksX0_readCircuit_1 9 rfl rfl)
theorem dX0_readCircuit_32 : decode cX0_readCircuit 32 = .ok (.getfield 13, 3) := dk_180 0 13 (dk_at dksX0_readCircuit_1 10 rfl rfl)
theorem dX0_readCircuit_35 : decode cX0_readCircuit 35 = .ok (.invokespecial 49, 3) := dk_183 0 49 (dk_at dksX0_readCircuit_1 13 rfl rfl)
theorem dX0_readCircuit_38 : decode cX0_readCircuit 38 = .ok (.astore_n 2, 1) := dk_77 (dk_at dksX0_readCircuit_1 16 rfl rfl)
theorem dX0_readCircuit_39 : decode cX0_readCircuit 39 = .ok (.iconst 0, 1) := dk_3 (dk_at dksX0_readCircuit_1 17 rfl rfl)
theorem dX0_readCircuit_40 : decode cX0_readCircuit 40 = .ok (.istore_n 3, 1) := dk_62 (dk_at dksX0_readCircuit_1 18 rfl rfl)
theorem dX0_readCircuit_41 : decode cX0_readCircuit 41 = .ok (.iload_n 3, 1) := dk_29 (dk_at dksX0_readCircuit_1 19 rfl rfl)
theorem dX0_readCircuit_42 : decode cX0_readCircuit 42 = .ok (.aload_n 1, 1) := dk_43 (dk_at dksX0_readCircuit_1 20 rfl rfl)
theorem dX0_readCircuit_43 : decode cX0_readCircuit 43 = .ok (.getfield 107, 3) := dk_180 0 107 (dk_at dksX0_readCircuit_1 21 rfl rfl)
theorem dX0_readCircuit_46 : decode cX0_readCircuit 46 = .ok (.invokeinterface 31 1, 5) := by decide +kernel
theorem dX0_readCircuit_51 : decode cX0_readCircuit 51 = .ok (.if_icmp .ge 65, 3) := dk_162 0 65 (dk_at dksX0_readCircuit_2 5 rfl rfl)
theorem dX0_readCircuit_54 : decode cX0_readCircuit 54 = .ok (.aload_n 1, 1) := dk_43 (dk_at dksX0_readCircuit_2 8 rfl rfl)
theorem dX0_readCircuit_55 : decode cX0_readCircuit 55 = .ok (.getfield 107, 3) := dk_180 0 107 (dk_at dksX0_readCircuit_2 9 rfl rfl)
theorem dX0_readCircuit_58 : decode cX0_readCircuit 58 = .ok (.iload_n 3, 1) := dk_29 (dk_at dksX0_readCircuit_2 12 rfl rfl)
theorem dX0_readCircuit_59 : decode cX0_readCircuit 59 = .ok (.invokeinterface 74 2, 5) := by decide +kernel
theorem dX0_readCircuit_64 : decode cX0_readCircuit 64 = .ok (.checkcast 61, 3) := dk_192 0 61 (dk_at dksX0_readCircuit_2 18 rfl rfl)
theorem dX0_readCircuit_67 : decode cX0_readCircuit 67 = .ok (.aload_n 2, 1) := dk_44 (dk_at dksX0_readCircuit_2 21 rfl rfl)
theorem dX0_readCircuit_68 : decode cX0_readCircuit 68 = .ok (.getfield 45, 3) := dk_180 0 45 (dk_at dksX0_readCircuit_3 0 rfl rfl)
theorem dX0_readCircuit_71 : decode cX0_readCircuit 71 = .ok (.invokeinterface 31 1, 5) := by decide +kernel
theorem dX0_readCircuit_76 : decode cX0_readCircuit 76 = .ok (.invokeinterface 108 2, 5) := by decide +kernel
theorem dX0_readCircuit_81 : decode cX0_readCircuit 81 = .ok (.ifCond .ne 6, 3) := dk_154 0 6 (dk_at dksX0_readCircuit_3 13 rfl rfl)
theorem dX0_readCircuit_84 : decode cX0_readCircuit 84 = .ok (.ldc 73, 2) := dk_18 73 (dk_at dksX0_readCircuit_3 16 rfl rfl)
theorem dX0_readCircuit_86 : decode cX0_readCircuit 86 = .ok (.ireturn, 1) := dk_172 (dk_at dksX0_readCircuit_3 18 rfl rfl)
theorem dX0_readCircuit_87 : decode cX0_readCircuit 87 = .ok (.aload_n 2, 1) := dk_44 (dk_at dksX0_readCircuit_3 19 rfl rfl)
theorem dX0_readCircuit_88 : decode cX0_readCircuit 88 = .ok (.getfield 45, 3) := dk_180 0 45 (dk_at dksX0_readCircuit_3 20 rfl rfl)
theorem dX0_readCircuit_91 : decode cX0_readCircuit 91 = .ok (.aload_n 1, 1) := dk_43 (dk_at dksX0_readCircuit_3 23 rfl rfl)
theorem dX0_readCircuit_92 : decode cX0_readCircuit 92 = .ok (.getfield 107, 3) := dk_180 0 107 (dk_at dksX0_readCircuit_4 0 rfl rfl)
theorem dX0_readCircuit_95 : decode cX0_readCircuit 95 = .ok (.iload_n 3, 1) := dk_29 (dk_at dksX0_readCircuit_4 3 rfl rfl)
theorem dX0_readCircuit_96 : decode cX0_readCircuit 96 = .ok (.invokeinterface 74 2, 5) := by decide +kernel
theorem dX0_readCircuit_101 : decode cX0_readCircuit 101 = .ok (.checkcast 61, 3) := dk_192 0 61 (dk_at dksX0_readCircuit_4 9 rfl rfl)
theorem dX0_readCircuit_104 : decode cX0_readCircuit 104 = .ok (.invokeinterface 41 2, 5) := by decide +kernel
theorem dX0_readCircuit_109 : decode cX0_readCircuit 109 = .ok (.pop, 1) := dk_87 (dk_at dksX0_readCircuit_4 17 rfl rfl)
theorem dX0_readCircuit_110 : decode cX0_readCircuit 110 = .ok (.iinc 3 1, 3) := dk_132 3 1 (dk_at dksX0_readCircuit_4 18 rfl rfl)
theorem dX0_readCircuit_113 : decode cX0_readCircuit 113 = .ok (.goto (-72), 3) := dk_167 255 184 (dk_at dksX0_readCircuit_4 21 rfl rfl)
theorem dX0_readCircuit_116 : decode cX0_readCircuit 116 = .ok (.aload_n 2, 1) := dk_44 (dk_at dksX0_readCircuit_5 0 rfl rfl)
theorem dX0_readCircuit_117 : decode cX0_readCircuit 117 = .ok (.getfield 45, 3) := dk_180 0 45 (dk_at dksX0_readCircuit_5 1 rfl rfl)
theorem dX0_readCircuit_120 : decode cX0_readCircuit 120 = .ok (.invokeinterface 31 1, 5) := by decide +kernel
theorem dX0_readCircuit_125 : decode cX0_readCircuit 125 = .ok (.bipush 16, 2) := dk_16 16 (dk_at dksX0_readCircuit_5 9 rfl rfl)
theorem dX0_readCircuit_127 : decode cX0_readCircuit 127 = .ok (.if_icmp .le 8, 3) := dk_164 0 8 (dk_at dksX0_readCircuit_5 11 rfl rfl)
theorem dX0_readCircuit_130 : decode cX0_readCircuit 130 = .ok (.ldc 48, 2) := dk_18 48 (dk_at dksX0_readCircuit_5 14 rfl rfl)
theorem dX0_readCircuit_132 : decode cX0_readCircuit 132 = .ok (.goto 17, 3) := dk_167 0 17 (dk_at dksX0_readCircuit_5 16 rfl rfl)
theorem dX0_readCircuit_135 : decode cX0_readCircuit 135 = .ok (.aload_n 0, 1) := dk_42 (dk_at dksX0_readCircuit_5 19 rfl rfl)
theorem dX0_readCircuit_136 : decode cX0_readCircuit 136 = .ok (.aload_n 2, 1) := dk_44 (dk_at dksX0_readCircuit_5 20 rfl rfl)
theorem dX0_readCircuit_137 : decode cX0_readCircuit 137 = .ok (.aload_n 2, 1) := dk_44 (dk_at dksX0_readCircuit_5 21 rfl rfl)
theorem dX0_readCircuit_138 : decode cX0_readCircuit 138 = .ok (.getfield 45, 3) := dk_180 0 45 (dk_at dksX0_readCircuit_6 0 rfl rfl)
theorem dX0_readCircuit_141 : decode cX0_readCircuit 141 = .ok (.invokeinterface 31 1, 5) := by decide +kernel
theorem dX0_readCircuit_146 : decode cX0_readCircuit 146 = .ok (.invokevirtual 52, 3) := dk_182 0 52 (dk_at dksX0_readCircuit_6 8 rfl rfl)
theorem dX0_readCircuit_149 : decode cX0_readCircuit 149 = .ok (.ireturn, 1) := dk_172 (dk_at dksX0_readCircuit_6 11 rfl rfl)
abbrev cX0_type : ByteArray := prog_1_method_16_code
def yX0_type : MethodName := ⟨RX0, "type", "(C)I"⟩
def dkwX0_type_1 : List UInt8 := [42, 180, 0, 27, 182, 0, 111, 172]
abbrev dktX0_type_1 : List UInt8 := dkwX0_type_1 ++ []
def dkwX0_type_0 : List UInt8 := [42, 180, 0, 27, 182, 0, 111, 16, 80, 160, 0, 6, 18, 48, 172, 42, 180, 0, 27, 27, 182, 0, 113, 87]
abbrev dktX0_type_0 : List UInt8 := dkwX0_type_0 ++ dktX0_type_1
theorem dksX0_type_0 : cX0_type.data.toList.drop 0 = dktX0_type_0 := by decide +kernel
theorem dksX0_type_1 : cX0_type.data.toList.drop 24 = dktX0_type_1 := dk_seg dksX0_type_0 24 rfl rfl
theorem dX0_type_0 : decode cX0_type 0 = .ok (.aload_n 0, 1) := dk_42 (dk_at dksX0_type_0 0 rfl rfl)
theorem dX0_type_1 : decode cX0_type 1 = .ok (.getfield 27, 3) := dk_180 0 27 (dk_at dksX0_type_0 1 rfl rfl)
theorem dX0_type_4 : decode cX0_type 4 = .ok (.invokevirtual 111, 3) := dk_182 0 111 (dk_at dksX0_type_0 4 rfl rfl)
theorem dX0_type_7 : decode cX0_type 7 = .ok (.bipush 80, 2) := dk_16 80 (dk_at dksX0_type_0 7 rfl rfl)
theorem dX0_type_9 : decode cX0_type 9 = .ok (.if_icmp .ne 6, 3) := dk_160 0 6 (dk_at dksX0_type_0 9 rfl rfl)
theorem dX0_type_12 : decode cX0_type 12 = .ok (.ldc 48, 2) := dk_18 48 (dk_at dksX0_type_0 12 rfl rfl)
theorem dX0_type_14 : decode cX0_type 14 = .ok (.ireturn, 1) := dk_172 (dk_at dksX0_type_0 14 rfl rfl)
theorem dX0_type_15 : decode cX0_type 15 = .ok (.aload_n 0, 1) := dk_42 (dk_at dksX0_type_0 15 rfl rfl)
theorem dX0_type_16 : decode cX0_type 16 = .ok (.getfield 27, 3) := dk_180 0 27 (dk_at dksX0_type_0 16 rfl rfl)
theorem dX0_type_19 : decode cX0_type 19 = .ok (.iload_n 1, 1) := dk_27 (dk_at dksX0_type_0 19 rfl rfl)
theorem dX0_type_20 : decode cX0_type 20 = .ok (.invokevirtual 113, 3) := dk_182 0 113 (dk_at dksX0_type_0 20 rfl rfl)
theorem dX0_type_23 : decode cX0_type 23 = .ok (.pop, 1) := dk_87 (dk_at dksX0_type_0 23 rfl rfl)
theorem dX0_type_24 : decode cX0_type 24 = .ok (.aload_n 0, 1) := dk_42 (dk_at dksX0_type_1 0 rfl rfl)
theorem dX0_type_25 : decode cX0_type 25 = .ok (.getfield 27, 3) := dk_180 0 27 (dk_at dksX0_type_1 1 rfl rfl)
theorem dX0_type_28 : decode cX0_type 28 = .ok (.invokevirtual 111, 3) := dk_182 0 111 (dk_at dksX0_type_1 4 rfl rfl)
theorem dX0_type_31 : decode cX0_type 31 = .ok (.ireturn, 1) := dk_172 (dk_at dksX0_type_1 7 rfl rfl)
abbrev cX0_clearText : ByteArray := prog_1_method_17_code
def yX0_clearText : MethodName := ⟨RX0, "clearText", "()I"⟩
def dkwX0_clearText_0 : List UInt8 := [42, 180, 0, 27, 182, 0, 111, 60, 42, 180, 0, 27, 3, 182, 0, 117, 27, 172]
abbrev dktX0_clearText_0 : List UInt8 := dkwX0_clearText_0 ++ []
theorem dksX0_clearText_0 : cX0_clearText.data.toList.drop 0 = dktX0_clearText_0 := by decide +kernel
theorem dX0_clearText_0 : decode cX0_clearText 0 = .ok (.aload_n 0, 1) := dk_42 (dk_at dksX0_clearText_0 0 rfl rfl)
theorem dX0_clearText_1 : decode cX0_clearText 1 = .ok (.getfield 27, 3) := dk_180 0 27 (dk_at dksX0_clearText_0 1 rfl rfl)
theorem dX0_clearText_4 : decode cX0_clearText 4 = .ok (.invokevirtual 111, 3) := dk_182 0 111 (dk_at dksX0_clearText_0 4 rfl rfl)
theorem dX0_clearText_7 : decode cX0_clearText 7 = .ok (.istore_n 1, 1) := dk_60 (dk_at dksX0_clearText_0 7 rfl rfl)
theorem dX0_clearText_8 : decode cX0_clearText 8 = .ok (.aload_n 0, 1) := dk_42 (dk_at dksX0_clearText_0 8 rfl rfl)
theorem dX0_clearText_9 : decode cX0_clearText 9 = .ok (.getfield 27, 3) := dk_180 0 27 (dk_at dksX0_clearText_0 9 rfl rfl)
theorem dX0_clearText_12 : decode cX0_clearText 12 = .ok (.iconst 0, 1) := dk_3 (dk_at dksX0_clearText_0 12 rfl rfl)
theorem dX0_clearText_13 : decode cX0_clearText 13 = .ok (.invokevirtual 117, 3) := dk_182 0 117 (dk_at dksX0_clearText_0 13 rfl rfl)
theorem dX0_clearText_16 : decode cX0_clearText 16 = .ok (.iload_n 1, 1) := dk_27 (dk_at dksX0_clearText_0 16 rfl rfl)
theorem dX0_clearText_17 : decode cX0_clearText 17 = .ok (.ireturn, 1) := dk_172 (dk_at dksX0_clearText_0 17 rfl rfl)
abbrev cX0_undo : ByteArray := prog_1_method_18_code
def yX0_undo : MethodName := ⟨RX0, "undo", "()I"⟩
def dkwX0_undo_2 : List UInt8 := [185, 0, 31, 1, 0, 172]
abbrev dktX0_undo_2 : List UInt8 := dkwX0_undo_2 ++ []
def dkwX0_undo_1 : List UInt8 := [185, 0, 31, 1, 0, 4, 100, 185, 0, 37, 2, 0, 192, 0, 10, 181, 0, 13, 42, 180, 0, 20]
abbrev dktX0_undo_1 : List UInt8 := dkwX0_undo_1 ++ dktX0_undo_2
def dkwX0_undo_0 : List UInt8 := [42, 180, 0, 20, 185, 0, 121, 1, 0, 153, 0, 6, 18, 85, 172, 42, 42, 180, 0, 20, 42, 180, 0, 20]
abbrev dktX0_undo_0 : List UInt8 := dkwX0_undo_0 ++ dktX0_undo_1
theorem dksX0_undo_0 : cX0_undo.data.toList.drop 0 = dktX0_undo_0 := by decide +kernel
theorem dksX0_undo_1 : cX0_undo.data.toList.drop 24 = dktX0_undo_1 := dk_seg dksX0_undo_0 24 rfl rfl
theorem dksX0_undo_2 : cX0_undo.data.toList.drop 46 = dktX0_undo_2 := dk_seg dksX0_undo_1 22 rfl rfl
theorem dX0_undo_0 : decode cX0_undo 0 = .ok (.aload_n 0, 1) := dk_42 (dk_at dksX0_undo_0 0 rfl rfl)
theorem dX0_undo_1 : decode cX0_undo 1 = .ok (.getfield 20, 3) := dk_180 0 20 (dk_at dksX0_undo_0 1 rfl rfl)
theorem dX0_undo_4 : decode cX0_undo 4 = .ok (.invokeinterface 121 1, 5) := by decide +kernel
theorem dX0_undo_9 : decode cX0_undo 9 = .ok (.ifCond .eq 6, 3) := dk_153 0 6 (dk_at dksX0_undo_0 9 rfl rfl)
theorem dX0_undo_12 : decode cX0_undo 12 = .ok (.ldc 85, 2) := dk_18 85 (dk_at dksX0_undo_0 12 rfl rfl)
theorem dX0_undo_14 : decode cX0_undo 14 = .ok (.ireturn, 1) := dk_172 (dk_at dksX0_undo_0 14 rfl rfl)
theorem dX0_undo_15 : decode cX0_undo 15 = .ok (.aload_n 0, 1) := dk_42 (dk_at dksX0_undo_0 15 rfl rfl)
theorem dX0_undo_16 : decode cX0_undo 16 = .ok (.aload_n 0, 1) := dk_42 (dk_at dksX0_undo_0 16 rfl rfl)
theorem dX0_undo_17 : decode cX0_undo 17 = .ok (.getfield 20, 3) := dk_180 0 20 (dk_at dksX0_undo_0 17 rfl rfl)
theorem dX0_undo_20 : decode cX0_undo 20 = .ok (.aload_n 0, 1) := dk_42 (dk_at dksX0_undo_0 20 rfl rfl)
theorem dX0_undo_21 : decode cX0_undo 21 = .ok (.getfield 20, 3) := dk_180 0 20 (dk_at dksX0_undo_0 21 rfl rfl)
theorem dX0_undo_24 : decode cX0_undo 24 = .ok (.invokeinterface 31 1, 5) := by decide +kernel
theorem dX0_undo_29 : decode cX0_undo 29 = .ok (.iconst 1, 1) := dk_4 (dk_at dksX0_undo_1 5 rfl rfl)
theorem dX0_undo_30 : decode cX0_undo 30 = .ok (.isub, 1) := dk_100 (dk_at dksX0_undo_1 6 rfl rfl)
theorem dX0_undo_31 : decode cX0_undo 31 = .ok (.invokeinterface 37 2, 5) := by decide +kernel
theorem dX0_undo_36 : decode cX0_undo 36 = .ok (.checkcast 10, 3) := dk_192 0 10 (dk_at dksX0_undo_1 12 rfl rfl)
theorem dX0_undo_39 : decode cX0_undo 39 = .ok (.putfield 13, 3) := dk_181 0 13 (dk_at dksX0_undo_1 15 rfl rfl)
theorem dX0_undo_42 : decode cX0_undo 42 = .ok (.aload_n 0, 1) := dk_42 (dk_at dksX0_undo_1 18 rfl rfl)
theorem dX0_undo_43 : decode cX0_undo 43 = .ok (.getfield 20, 3) := dk_180 0 20 (dk_at dksX0_undo_1 19 rfl rfl)
theorem dX0_undo_46 : decode cX0_undo 46 = .ok (.invokeinterface 31 1, 5) := by decide +kernel
theorem dX0_undo_51 : decode cX0_undo 51 = .ok (.ireturn, 1) := dk_172 (dk_at dksX0_undo_2 5 rfl rfl)
abbrev cX0_keep : ByteArray := prog_1_method_19_code
def yX0_keep : MethodName := ⟨RX0, "keep", "()I"⟩
def dkwX0_keep_1 : List UInt8 := [185, 0, 31, 1, 0, 172]
abbrev dktX0_keep_1 : List UInt8 := dkwX0_keep_1 ++ []
def dkwX0_keep_0 : List UInt8 := [42, 187, 0, 10, 89, 42, 180, 0, 13, 183, 0, 49, 181, 0, 124, 42, 180, 0, 13, 180, 0, 45]
abbrev dktX0_keep_0 : List UInt8 := dkwX0_keep_0 ++ dktX0_keep_1
theorem dksX0_keep_0 : cX0_keep.data.toList.drop 0 = dktX0_keep_0 := by decide +kernel
theorem dksX0_keep_1 : cX0_keep.data.toList.drop 22 = dktX0_keep_1 := dk_seg dksX0_keep_0 22 rfl rfl
theorem dX0_keep_0 : decode cX0_keep 0 = .ok (.aload_n 0, 1) := dk_42 (dk_at dksX0_keep_0 0 rfl rfl)
theorem dX0_keep_1 : decode cX0_keep 1 = .ok (.new 10, 3) := dk_187 0 10 (dk_at dksX0_keep_0 1 rfl rfl)
theorem dX0_keep_4 : decode cX0_keep 4 = .ok (.dup, 1) := dk_89 (dk_at dksX0_keep_0 4 rfl rfl)
theorem dX0_keep_5 : decode cX0_keep 5 = .ok (.aload_n 0, 1) := dk_42 (dk_at dksX0_keep_0 5 rfl rfl)
theorem dX0_keep_6 : decode cX0_keep 6 = .ok (.getfield 13, 3) := dk_180 0 13 (dk_at dksX0_keep_0 6 rfl rfl)
theorem dX0_keep_9 : decode cX0_keep 9 = .ok (.invokespecial 49, 3) := dk_183 0 49 (dk_at dksX0_keep_0 9 rfl rfl)
theorem dX0_keep_12 : decode cX0_keep 12 = .ok (.putfield 124, 3) := dk_181 0 124 (dk_at dksX0_keep_0 12 rfl rfl)
theorem dX0_keep_15 : decode cX0_keep 15 = .ok (.aload_n 0, 1) := dk_42 (dk_at dksX0_keep_0 15 rfl rfl)
theorem dX0_keep_16 : decode cX0_keep 16 = .ok (.getfield 13, 3) := dk_180 0 13 (dk_at dksX0_keep_0 16 rfl rfl)
theorem dX0_keep_19 : decode cX0_keep 19 = .ok (.getfield 45, 3) := dk_180 0 45 (dk_at dksX0_keep_0 19 rfl rfl)
theorem dX0_keep_22 : decode cX0_keep 22 = .ok (.invokeinterface 31 1, 5) := by decide +kernel
theorem dX0_keep_27 : decode cX0_keep 27 = .ok (.ireturn, 1) := dk_172 (dk_at dksX0_keep_1 5 rfl rfl)
abbrev cX0_restore : ByteArray := prog_1_method_20_code
def yX0_restore : MethodName := ⟨RX0, "restore", "()I"⟩
def dkwX0_restore_1 : List UInt8 := [42, 180, 0, 124, 180, 0, 45, 185, 0, 31, 1, 0, 182, 0, 52, 172]
abbrev dktX0_restore_1 : List UInt8 := dkwX0_restore_1 ++ []
def dkwX0_restore_0 : List UInt8 := [42, 180, 0, 124, 199, 0, 8, 18, 85, 167, 0, 30, 42, 187, 0, 10, 89, 42, 180, 0, 124, 183, 0, 49]
abbrev dktX0_restore_0 : List UInt8 := dkwX0_restore_0 ++ dktX0_restore_1
theorem dksX0_restore_0 : cX0_restore.data.toList.drop 0 = dktX0_restore_0 := by decide +kernel
theorem dksX0_restore_1 : cX0_restore.data.toList.drop 24 = dktX0_restore_1 := dk_seg dksX0_restore_0 24 rfl rfl
theorem dX0_restore_0 : decode cX0_restore 0 = .ok (.aload_n 0, 1) := dk_42 (dk_at dksX0_restore_0 0 rfl rfl)
theorem dX0_restore_1 : decode cX0_restore 1 = .ok (.getfield 124, 3) := dk_180 0 124 (dk_at dksX0_restore_0 1 rfl rfl)
theorem dX0_restore_4 : decode cX0_restore 4 = .ok (.ifnonnull 8, 3) := dk_199 0 8 (dk_at dksX0_restore_0 4 rfl rfl)
theorem dX0_restore_7 : decode cX0_restore 7 = .ok (.ldc 85, 2) := dk_18 85 (dk_at dksX0_restore_0 7 rfl rfl)
theorem dX0_restore_9 : decode cX0_restore 9 = .ok (.goto 30, 3) := dk_167 0 30 (dk_at dksX0_restore_0 9 rfl rfl)
theorem dX0_restore_12 : decode cX0_restore 12 = .ok (.aload_n 0, 1) := dk_42 (dk_at dksX0_restore_0 12 rfl rfl)
theorem dX0_restore_13 : decode cX0_restore 13 = .ok (.new 10, 3) := dk_187 0 10 (dk_at dksX0_restore_0 13 rfl rfl)
theorem dX0_restore_16 : decode cX0_restore 16 = .ok (.dup, 1) := dk_89 (dk_at dksX0_restore_0 16 rfl rfl)
theorem dX0_restore_17 : decode cX0_restore 17 = .ok (.aload_n 0, 1) := dk_42 (dk_at dksX0_restore_0 17 rfl rfl)
theorem dX0_restore_18 : decode cX0_restore 18 = .ok (.getfield 124, 3) := dk_180 0 124 (dk_at dksX0_restore_0 18 rfl rfl)
theorem dX0_restore_21 : decode cX0_restore 21 = .ok (.invokespecial 49, 3) := dk_183 0 49 (dk_at dksX0_restore_0 21 rfl rfl)
theorem dX0_restore_24 : decode cX0_restore 24 = .ok (.aload_n 0, 1) := dk_42 (dk_at dksX0_restore_1 0 rfl rfl)
theorem dX0_restore_25 : decode cX0_restore 25 = .ok (.getfield 124, 3) := dk_180 0 124 (dk_at dksX0_restore_1 1 rfl rfl)
theorem dX0_restore_28 : decode cX0_restore 28 = .ok (.getfield 45, 3) := dk_180 0 45 (dk_at dksX0_restore_1 4 rfl rfl)
theorem dX0_restore_31 : decode cX0_restore 31 = .ok (.invokeinterface 31 1, 5) := by decide +kernel
theorem dX0_restore_36 : decode cX0_restore 36 = .ok (.invokevirtual 52, 3) := dk_182 0 52 (dk_at dksX0_restore_1 12 rfl rfl)
theorem dX0_restore_39 : decode cX0_restore 39 = .ok (.ireturn, 1) := dk_172 (dk_at dksX0_restore_1 15 rfl rfl)
abbrev cX0_line : ByteArray := prog_1_method_21_code
def yX0_line : MethodName := ⟨RX0, "line", "(II)I"⟩
def dkwX0_line_8 : List UInt8 := [18, 3, 172]
abbrev dktX0_line_8 : List UInt8 := dkwX0_line_8 ++ []
def dkwX0_line_7 : List UInt8 := [182, 0, 141, 27, 46, 167, 0, 20, 42, 180, 0, 13, 182, 0, 144, 27, 46, 184, 0, 147, 167, 0, 5]
abbrev dktX0_line_7 : List UInt8 := dkwX0_line_7 ++ dktX0_line_8
def dkwX0_line_6 : List UInt8 := [42, 180, 0, 13, 27, 42, 180, 0, 13, 180, 0, 90, 182, 0, 138, 167, 0, 32, 42, 180, 0, 13]
abbrev dktX0_line_6 : List UInt8 := dkwX0_line_6 ++ dktX0_line_7
def dkwX0_line_5 : List UInt8 := [180, 0, 13, 180, 0, 90, 182, 0, 131, 167, 0, 62, 42, 180, 0, 13, 182, 0, 134, 27, 46, 167, 0, 50]
abbrev dktX0_line_5 : List UInt8 := dkwX0_line_5 ++ dktX0_line_6
def dkwX0_line_4 : List UInt8 := [180, 0, 13, 27, 42, 180, 0, 13, 180, 0, 90, 182, 0, 127, 167, 0, 80, 42, 180, 0, 13, 27, 42]
abbrev dktX0_line_4 : List UInt8 := dkwX0_line_4 ++ dktX0_line_5
def dkwX0_line_3 : List UInt8 := [45, 185, 0, 77, 1, 0, 167, 0, 110, 45, 28, 4, 100, 185, 0, 81, 2, 0, 167, 0, 98, 42]
abbrev dktX0_line_3 : List UInt8 := dkwX0_line_3 ++ dktX0_line_4
def dkwX0_line_2 : List UInt8 := [170, 0, 0, 0, 0, 0, 0, 170, 0, 0, 0, 0, 0, 0, 0, 9, 0, 0, 0, 56, 0, 0, 0, 65, 0, 0, 0, 65, 0, 0, 0, 65, 0, 0, 0, 77, 0, 0, 0, 95, 0, 0, 0, 113, 0, 0, 0, 125, 0, 0, 0, 143, 0, 0, 0, 155]
abbrev dktX0_line_2 : List UInt8 := dkwX0_line_2 ++ dktX0_line_3
def dkwX0_line_1 : List UInt8 := [185, 0, 74, 2, 0, 192, 0, 61, 78, 28]
abbrev dktX0_line_1 : List UInt8 := dkwX0_line_1 ++ dktX0_line_2
def dkwX0_line_0 : List UInt8 := [42, 180, 0, 13, 27, 182, 0, 69, 154, 0, 6, 18, 73, 172, 42, 180, 0, 13, 180, 0, 45, 27]
abbrev dktX0_line_0 : List UInt8 := dkwX0_line_0 ++ dktX0_line_1
theorem dksX0_line_0 : cX0_line.data.toList.drop 0 = dktX0_line_0 := by decide +kernel
theorem dksX0_line_1 : cX0_line.data.toList.drop 22 = dktX0_line_1 := dk_seg dksX0_line_0 22 rfl rfl
theorem dksX0_line_2 : cX0_line.data.toList.drop 32 = dktX0_line_2 := dk_seg dksX0_line_1 10 rfl rfl
theorem dksX0_line_3 : cX0_line.data.toList.drop 88 = dktX0_line_3 := dk_seg dksX0_line_2 56 rfl rfl
theorem dksX0_line_4 : cX0_line.data.toList.drop 110 = dktX0_line_4 := dk_seg dksX0_line_3 22 rfl rfl
theorem dksX0_line_5 : cX0_line.data.toList.drop 133 = dktX0_line_5 := dk_seg dksX0_line_4 23 rfl rfl
theorem dksX0_line_6 : cX0_line.data.toList.drop 157 = dktX0_line_6 := dk_seg dksX0_line_5 24 rfl rfl
theorem dksX0_line_7 : cX0_line.data.toList.drop 179 = dktX0_line_7 := dk_seg dksX0_line_6 22 rfl rfl
theorem dksX0_line_8 : cX0_line.data.toList.drop 202 = dktX0_line_8 := dk_seg dksX0_line_7 23 rfl rfl
theorem dX0_line_0 : decode cX0_line 0 = .ok (.aload_n 0, 1) := dk_42 (dk_at dksX0_line_0 0 rfl rfl)
theorem dX0_line_1 : decode cX0_line 1 = .ok (.getfield 13, 3) := dk_180 0 13 (dk_at dksX0_line_0 1 rfl rfl)
theorem dX0_line_4 : decode cX0_line 4 = .ok (.iload_n 1, 1) := dk_27 (dk_at dksX0_line_0 4 rfl rfl)
theorem dX0_line_5 : decode cX0_line 5 = .ok (.invokevirtual 69, 3) := dk_182 0 69 (dk_at dksX0_line_0 5 rfl rfl)
theorem dX0_line_8 : decode cX0_line 8 = .ok (.ifCond .ne 6, 3) := dk_154 0 6 (dk_at dksX0_line_0 8 rfl rfl)
theorem dX0_line_11 : decode cX0_line 11 = .ok (.ldc 73, 2) := dk_18 73 (dk_at dksX0_line_0 11 rfl rfl)
theorem dX0_line_13 : decode cX0_line 13 = .ok (.ireturn, 1) := dk_172 (dk_at dksX0_line_0 13 rfl rfl)
theorem dX0_line_14 : decode cX0_line 14 = .ok (.aload_n 0, 1) := dk_42 (dk_at dksX0_line_0 14 rfl rfl)
theorem dX0_line_15 : decode cX0_line 15 = .ok (.getfield 13, 3) := dk_180 0 13 (dk_at dksX0_line_0 15 rfl rfl)
theorem dX0_line_18 : decode cX0_line 18 = .ok (.getfield 45, 3) := dk_180 0 45 (dk_at dksX0_line_0 18 rfl rfl)
theorem dX0_line_21 : decode cX0_line 21 = .ok (.iload_n 1, 1) := dk_27 (dk_at dksX0_line_0 21 rfl rfl)
theorem dX0_line_22 : decode cX0_line 22 = .ok (.invokeinterface 74 2, 5) := by decide +kernel
theorem dX0_line_27 : decode cX0_line 27 = .ok (.checkcast 61, 3) := dk_192 0 61 (dk_at dksX0_line_1 5 rfl rfl)
theorem dX0_line_30 : decode cX0_line 30 = .ok (.astore_n 3, 1) := dk_78 (dk_at dksX0_line_1 8 rfl rfl)
theorem dX0_line_31 : decode cX0_line 31 = .ok (.iload_n 2, 1) := dk_28 (dk_at dksX0_line_1 9 rfl rfl)
theorem dX0_line_32 : decode cX0_line 32 = .ok (.tableswitch 170 0 9 #[56, 65, 65, 65, 77, 95, 113, 125, 143, 155], 56) := by decide +kernel
theorem dX0_line_88 : decode cX0_line 88 = .ok (.aload_n 3, 1) := dk_45 (dk_at dksX0_line_3 0 rfl rfl)
theorem dX0_line_89 : decode cX0_line 89 = .ok (.invokeinterface 77 1, 5) := by decide +kernel
theorem dX0_line_94 : decode cX0_line 94 = .ok (.goto 110, 3) := dk_167 0 110 (dk_at dksX0_line_3 6 rfl rfl)
theorem dX0_line_97 : decode cX0_line 97 = .ok (.aload_n 3, 1) := dk_45 (dk_at dksX0_line_3 9 rfl rfl)
theorem dX0_line_98 : decode cX0_line 98 = .ok (.iload_n 2, 1) := dk_28 (dk_at dksX0_line_3 10 rfl rfl)
theorem dX0_line_99 : decode cX0_line 99 = .ok (.iconst 1, 1) := dk_4 (dk_at dksX0_line_3 11 rfl rfl)
theorem dX0_line_100 : decode cX0_line 100 = .ok (.isub, 1) := dk_100 (dk_at dksX0_line_3 12 rfl rfl)
theorem dX0_line_101 : decode cX0_line 101 = .ok (.invokeinterface 81 2, 5) := by decide +kernel
theorem dX0_line_106 : decode cX0_line 106 = .ok (.goto 98, 3) := dk_167 0 98 (dk_at dksX0_line_3 18 rfl rfl)
theorem dX0_line_109 : decode cX0_line 109 = .ok (.aload_n 0, 1) := dk_42 (dk_at dksX0_line_3 21 rfl rfl)
theorem dX0_line_110 : decode cX0_line 110 = .ok (.getfield 13, 3) := dk_180 0 13 (dk_at dksX0_line_4 0 rfl rfl)
theorem dX0_line_113 : decode cX0_line 113 = .ok (.iload_n 1, 1) := dk_27 (dk_at dksX0_line_4 3 rfl rfl)
theorem dX0_line_114 : decode cX0_line 114 = .ok (.aload_n 0, 1) := dk_42 (dk_at dksX0_line_4 4 rfl rfl)
theorem dX0_line_115 : decode cX0_line 115 = .ok (.getfield 13, 3) := dk_180 0 13 (dk_at dksX0_line_4 5 rfl rfl)
theorem dX0_line_118 : decode cX0_line 118 = .ok (.getfield 90, 3) := dk_180 0 90 (dk_at dksX0_line_4 8 rfl rfl)
theorem dX0_line_121 : decode cX0_line 121 = .ok (.invokevirtual 127, 3) := dk_182 0 127 (dk_at dksX0_line_4 11 rfl rfl)
theorem dX0_line_124 : decode cX0_line 124 = .ok (.goto 80, 3) := dk_167 0 80 (dk_at dksX0_line_4 14 rfl rfl)
theorem dX0_line_127 : decode cX0_line 127 = .ok (.aload_n 0, 1) := dk_42 (dk_at dksX0_line_4 17 rfl rfl)
theorem dX0_line_128 : decode cX0_line 128 = .ok (.getfield 13, 3) := dk_180 0 13 (dk_at dksX0_line_4 18 rfl rfl)
theorem dX0_line_131 : decode cX0_line 131 = .ok (.iload_n 1, 1) := dk_27 (dk_at dksX0_line_4 21 rfl rfl)
theorem dX0_line_132 : decode cX0_line 132 = .ok (.aload_n 0, 1) := dk_42 (dk_at dksX0_line_4 22 rfl rfl)
theorem dX0_line_133 : decode cX0_line 133 = .ok (.getfield 13, 3) := dk_180 0 13 (dk_at dksX0_line_5 0 rfl rfl)
theorem dX0_line_136 : decode cX0_line 136 = .ok (.getfield 90, 3) := dk_180 0 90 (dk_at dksX0_line_5 3 rfl rfl)
theorem dX0_line_139 : decode cX0_line 139 = .ok (.invokevirtual 131, 3) := dk_182 0 131 (dk_at dksX0_line_5 6 rfl rfl)
theorem dX0_line_142 : decode cX0_line 142 = .ok (.goto 62, 3) := dk_167 0 62 (dk_at dksX0_line_5 9 rfl rfl)
theorem dX0_line_145 : decode cX0_line 145 = .ok (.aload_n 0, 1) := dk_42 (dk_at dksX0_line_5 12 rfl rfl)
theorem dX0_line_146 : decode cX0_line 146 = .ok (.getfield 13, 3) := dk_180 0 13 (dk_at dksX0_line_5 13 rfl rfl)
theorem dX0_line_149 : decode cX0_line 149 = .ok (.invokevirtual 134, 3) := dk_182 0 134 (dk_at dksX0_line_5 16 rfl rfl)
theorem dX0_line_152 : decode cX0_line 152 = .ok (.iload_n 1, 1) := dk_27 (dk_at dksX0_line_5 19 rfl rfl)
theorem dX0_line_153 : decode cX0_line 153 = .ok (.iaload, 1) := dk_46 (dk_at dksX0_line_5 20 rfl rfl)
theorem dX0_line_154 : decode cX0_line 154 = .ok (.goto 50, 3) := dk_167 0 50 (dk_at dksX0_line_5 21 rfl rfl)
theorem dX0_line_157 : decode cX0_line 157 = .ok (.aload_n 0, 1) := dk_42 (dk_at dksX0_line_6 0 rfl rfl)
theorem dX0_line_158 : decode cX0_line 158 = .ok (.getfield 13, 3) := dk_180 0 13 (dk_at dksX0_line_6 1 rfl rfl)
theorem dX0_line_161 : decode cX0_line 161 = .ok (.iload_n 1, 1) := dk_27 (dk_at dksX0_line_6 4 rfl rfl)
theorem dX0_line_162 : decode cX0_line 162 = .ok (.aload_n 0, 1) := dk_42 (dk_at dksX0_line_6 5 rfl rfl)
theorem dX0_line_163 : decode cX0_line 163 = .ok (.getfield 13, 3) := dk_180 0 13 (dk_at dksX0_line_6 6 rfl rfl)
theorem dX0_line_166 : decode cX0_line 166 = .ok (.getfield 90, 3) := dk_180 0 90 (dk_at dksX0_line_6 9 rfl rfl)
theorem dX0_line_169 : decode cX0_line 169 = .ok (.invokevirtual 138, 3) := dk_182 0 138 (dk_at dksX0_line_6 12 rfl rfl)
theorem dX0_line_172 : decode cX0_line 172 = .ok (.goto 32, 3) := dk_167 0 32 (dk_at dksX0_line_6 15 rfl rfl)
theorem dX0_line_175 : decode cX0_line 175 = .ok (.aload_n 0, 1) := dk_42 (dk_at dksX0_line_6 18 rfl rfl)
theorem dX0_line_176 : decode cX0_line 176 = .ok (.getfield 13, 3) := dk_180 0 13 (dk_at dksX0_line_6 19 rfl rfl)
theorem dX0_line_179 : decode cX0_line 179 = .ok (.invokevirtual 141, 3) := dk_182 0 141 (dk_at dksX0_line_7 0 rfl rfl)
theorem dX0_line_182 : decode cX0_line 182 = .ok (.iload_n 1, 1) := dk_27 (dk_at dksX0_line_7 3 rfl rfl)
theorem dX0_line_183 : decode cX0_line 183 = .ok (.iaload, 1) := dk_46 (dk_at dksX0_line_7 4 rfl rfl)
theorem dX0_line_184 : decode cX0_line 184 = .ok (.goto 20, 3) := dk_167 0 20 (dk_at dksX0_line_7 5 rfl rfl)
theorem dX0_line_187 : decode cX0_line 187 = .ok (.aload_n 0, 1) := dk_42 (dk_at dksX0_line_7 8 rfl rfl)
theorem dX0_line_188 : decode cX0_line 188 = .ok (.getfield 13, 3) := dk_180 0 13 (dk_at dksX0_line_7 9 rfl rfl)
theorem dX0_line_191 : decode cX0_line 191 = .ok (.invokevirtual 144, 3) := dk_182 0 144 (dk_at dksX0_line_7 12 rfl rfl)
theorem dX0_line_194 : decode cX0_line 194 = .ok (.iload_n 1, 1) := dk_27 (dk_at dksX0_line_7 15 rfl rfl)
theorem dX0_line_195 : decode cX0_line 195 = .ok (.iaload, 1) := dk_46 (dk_at dksX0_line_7 16 rfl rfl)
theorem dX0_line_196 : decode cX0_line 196 = .ok (.invokestatic 147, 3) := dk_184 0 147 (dk_at dksX0_line_7 17 rfl rfl)
theorem dX0_line_199 : decode cX0_line 199 = .ok (.goto 5, 3) := dk_167 0 5 (dk_at dksX0_line_7 20 rfl rfl)
theorem dX0_line_202 : decode cX0_line 202 = .ok (.ldc 3, 2) := dk_18 3 (dk_at dksX0_line_8 0 rfl rfl)
theorem dX0_line_204 : decode cX0_line 204 = .ok (.ireturn, 1) := dk_172 (dk_at dksX0_line_8 2 rfl rfl)
abbrev cX0_next : ByteArray := prog_1_method_3_code
def yX0_next : MethodName := ⟨RX0, "next", "(I)I"⟩
def dkwX0_next_1 : List UInt8 := [27, 172]
abbrev dktX0_next_1 : List UInt8 := dkwX0_next_1 ++ []
def dkwX0_next_0 : List UInt8 := [5, 26, 104, 60, 27, 17, 0, 255, 164, 0, 16, 27, 17, 0, 255, 100, 4, 100, 16, 29, 130, 167, 0, 4]
abbrev dktX0_next_0 : List UInt8 := dkwX0_next_0 ++ dktX0_next_1
theorem dksX0_next_0 : cX0_next.data.toList.drop 0 = dktX0_next_0 := by decide +kernel
theorem dksX0_next_1 : cX0_next.data.toList.drop 24 = dktX0_next_1 := dk_seg dksX0_next_0 24 rfl rfl
theorem dX0_next_0 : decode cX0_next 0 = .ok (.iconst 2, 1) := dk_5 (dk_at dksX0_next_0 0 rfl rfl)
theorem dX0_next_1 : decode cX0_next 1 = .ok (.iload_n 0, 1) := dk_26 (dk_at dksX0_next_0 1 rfl rfl)
theorem dX0_next_2 : decode cX0_next 2 = .ok (.imul, 1) := dk_104 (dk_at dksX0_next_0 2 rfl rfl)
theorem dX0_next_3 : decode cX0_next 3 = .ok (.istore_n 1, 1) := dk_60 (dk_at dksX0_next_0 3 rfl rfl)
theorem dX0_next_4 : decode cX0_next 4 = .ok (.iload_n 1, 1) := dk_27 (dk_at dksX0_next_0 4 rfl rfl)
theorem dX0_next_5 : decode cX0_next 5 = .ok (.sipush 255, 3) := dk_17 0 255 (dk_at dksX0_next_0 5 rfl rfl)
theorem dX0_next_8 : decode cX0_next 8 = .ok (.if_icmp .le 16, 3) := dk_164 0 16 (dk_at dksX0_next_0 8 rfl rfl)
theorem dX0_next_11 : decode cX0_next 11 = .ok (.iload_n 1, 1) := dk_27 (dk_at dksX0_next_0 11 rfl rfl)
theorem dX0_next_12 : decode cX0_next 12 = .ok (.sipush 255, 3) := dk_17 0 255 (dk_at dksX0_next_0 12 rfl rfl)
theorem dX0_next_15 : decode cX0_next 15 = .ok (.isub, 1) := dk_100 (dk_at dksX0_next_0 15 rfl rfl)
theorem dX0_next_16 : decode cX0_next 16 = .ok (.iconst 1, 1) := dk_4 (dk_at dksX0_next_0 16 rfl rfl)
theorem dX0_next_17 : decode cX0_next 17 = .ok (.isub, 1) := dk_100 (dk_at dksX0_next_0 17 rfl rfl)
theorem dX0_next_18 : decode cX0_next 18 = .ok (.bipush 29, 2) := dk_16 29 (dk_at dksX0_next_0 18 rfl rfl)
theorem dX0_next_20 : decode cX0_next 20 = .ok (.ixor, 1) := dk_130 (dk_at dksX0_next_0 20 rfl rfl)
theorem dX0_next_21 : decode cX0_next 21 = .ok (.goto 4, 3) := dk_167 0 4 (dk_at dksX0_next_0 21 rfl rfl)
theorem dX0_next_24 : decode cX0_next 24 = .ok (.iload_n 1, 1) := dk_27 (dk_at dksX0_next_1 0 rfl rfl)
theorem dX0_next_25 : decode cX0_next 25 = .ok (.ireturn, 1) := dk_172 (dk_at dksX0_next_1 1 rfl rfl)
abbrev cX0_bit : ByteArray := prog_1_method_22_code
def yX0_bit : MethodName := ⟨RX0, "bit", "(II)I"⟩
def dkwX0_bit_2 : List UInt8 := [167, 0, 5, 18, 3, 172]
abbrev dktX0_bit_2 : List UInt8 := dkwX0_bit_2 ++ []
def dkwX0_bit_1 : List UInt8 := [153, 0, 27, 42, 180, 0, 13, 27, 28, 4, 96, 182, 0, 127, 42, 180, 0, 13, 27, 28, 182, 0, 127, 100]
abbrev dktX0_bit_1 : List UInt8 := dkwX0_bit_1 ++ dktX0_bit_2
def dkwX0_bit_0 : List UInt8 := [42, 180, 0, 13, 27, 182, 0, 69, 154, 0, 6, 18, 73, 172, 28, 3, 17, 3, 231, 184, 0, 56]
abbrev dktX0_bit_0 : List UInt8 := dkwX0_bit_0 ++ dktX0_bit_1
theorem dksX0_bit_0 : cX0_bit.data.toList.drop 0 = dktX0_bit_0 := by decide +kernel
theorem dksX0_bit_1 : cX0_bit.data.toList.drop 22 = dktX0_bit_1 := dk_seg dksX0_bit_0 22 rfl rfl
theorem dksX0_bit_2 : cX0_bit.data.toList.drop 46 = dktX0_bit_2 := dk_seg dksX0_bit_1 24 rfl rfl
theorem dX0_bit_0 : decode cX0_bit 0 = .ok (.aload_n 0, 1) := dk_42 (dk_at dksX0_bit_0 0 rfl rfl)
theorem dX0_bit_1 : decode cX0_bit 1 = .ok (.getfield 13, 3) := dk_180 0 13 (dk_at dksX0_bit_0 1 rfl rfl)
theorem dX0_bit_4 : decode cX0_bit 4 = .ok (.iload_n 1, 1) := dk_27 (dk_at dksX0_bit_0 4 rfl rfl)
theorem dX0_bit_5 : decode cX0_bit 5 = .ok (.invokevirtual 69, 3) := dk_182 0 69 (dk_at dksX0_bit_0 5 rfl rfl)
theorem dX0_bit_8 : decode cX0_bit 8 = .ok (.ifCond .ne 6, 3) := dk_154 0 6 (dk_at dksX0_bit_0 8 rfl rfl)
theorem dX0_bit_11 : decode cX0_bit 11 = .ok (.ldc 73, 2) := dk_18 73 (dk_at dksX0_bit_0 11 rfl rfl)
theorem dX0_bit_13 : decode cX0_bit 13 = .ok (.ireturn, 1) := dk_172 (dk_at dksX0_bit_0 13 rfl rfl)
theorem dX0_bit_14 : decode cX0_bit 14 = .ok (.iload_n 2, 1) := dk_28 (dk_at dksX0_bit_0 14 rfl rfl)
theorem dX0_bit_15 : decode cX0_bit 15 = .ok (.iconst 0, 1) := dk_3 (dk_at dksX0_bit_0 15 rfl rfl)
theorem dX0_bit_16 : decode cX0_bit 16 = .ok (.sipush 999, 3) := dk_17 3 231 (dk_at dksX0_bit_0 16 rfl rfl)
theorem dX0_bit_19 : decode cX0_bit 19 = .ok (.invokestatic 56, 3) := dk_184 0 56 (dk_at dksX0_bit_0 19 rfl rfl)
theorem dX0_bit_22 : decode cX0_bit 22 = .ok (.ifCond .eq 27, 3) := dk_153 0 27 (dk_at dksX0_bit_1 0 rfl rfl)
theorem dX0_bit_25 : decode cX0_bit 25 = .ok (.aload_n 0, 1) := dk_42 (dk_at dksX0_bit_1 3 rfl rfl)
theorem dX0_bit_26 : decode cX0_bit 26 = .ok (.getfield 13, 3) := dk_180 0 13 (dk_at dksX0_bit_1 4 rfl rfl)
theorem dX0_bit_29 : decode cX0_bit 29 = .ok (.iload_n 1, 1) := dk_27 (dk_at dksX0_bit_1 7 rfl rfl)
theorem dX0_bit_30 : decode cX0_bit 30 = .ok (.iload_n 2, 1) := dk_28 (dk_at dksX0_bit_1 8 rfl rfl)
theorem dX0_bit_31 : decode cX0_bit 31 = .ok (.iconst 1, 1) := dk_4 (dk_at dksX0_bit_1 9 rfl rfl)
theorem dX0_bit_32 : decode cX0_bit 32 = .ok (.iadd, 1) := dk_96 (dk_at dksX0_bit_1 10 rfl rfl)
theorem dX0_bit_33 : decode cX0_bit 33 = .ok (.invokevirtual 127, 3) := dk_182 0 127 (dk_at dksX0_bit_1 11 rfl rfl)
theorem dX0_bit_36 : decode cX0_bit 36 = .ok (.aload_n 0, 1) := dk_42 (dk_at dksX0_bit_1 14 rfl rfl)
theorem dX0_bit_37 : decode cX0_bit 37 = .ok (.getfield 13, 3) := dk_180 0 13 (dk_at dksX0_bit_1 15 rfl rfl)
theorem dX0_bit_40 : decode cX0_bit 40 = .ok (.iload_n 1, 1) := dk_27 (dk_at dksX0_bit_1 18 rfl rfl)
theorem dX0_bit_41 : decode cX0_bit 41 = .ok (.iload_n 2, 1) := dk_28 (dk_at dksX0_bit_1 19 rfl rfl)
theorem dX0_bit_42 : decode cX0_bit 42 = .ok (.invokevirtual 127, 3) := dk_182 0 127 (dk_at dksX0_bit_1 20 rfl rfl)
theorem dX0_bit_45 : decode cX0_bit 45 = .ok (.isub, 1) := dk_100 (dk_at dksX0_bit_1 23 rfl rfl)
theorem dX0_bit_46 : decode cX0_bit 46 = .ok (.goto 5, 3) := dk_167 0 5 (dk_at dksX0_bit_2 0 rfl rfl)
theorem dX0_bit_49 : decode cX0_bit 49 = .ok (.ldc 3, 2) := dk_18 3 (dk_at dksX0_bit_2 3 rfl rfl)
theorem dX0_bit_51 : decode cX0_bit 51 = .ok (.ireturn, 1) := dk_172 (dk_at dksX0_bit_2 5 rfl rfl)
abbrev cX0_overlap : ByteArray := prog_1_method_23_code
def yX0_overlap : MethodName := ⟨RX0, "overlap", "(II)I"⟩
def dkwX0_overlap_2 : List UInt8 := [180, 0, 13, 180, 0, 90, 133, 105, 109, 136, 172]
abbrev dktX0_overlap_2 : List UInt8 := dkwX0_overlap_2 ++ []
def dkwX0_overlap_1 : List UInt8 := [172, 42, 180, 0, 13, 27, 28, 182, 0, 152, 20, 0, 156, 105, 42, 180, 0, 13, 180, 0, 90, 133, 42]
abbrev dktX0_overlap_1 : List UInt8 := dkwX0_overlap_1 ++ dktX0_overlap_2
def dkwX0_overlap_0 : List UInt8 := [42, 180, 0, 13, 27, 182, 0, 69, 153, 0, 14, 42, 180, 0, 13, 28, 182, 0, 69, 154, 0, 6, 18, 73]
abbrev dktX0_overlap_0 : List UInt8 := dkwX0_overlap_0 ++ dktX0_overlap_1
theorem dksX0_overlap_0 : cX0_overlap.data.toList.drop 0 = dktX0_overlap_0 := by decide +kernel
theorem dksX0_overlap_1 : cX0_overlap.data.toList.drop 24 = dktX0_overlap_1 := dk_seg dksX0_overlap_0 24 rfl rfl
theorem dksX0_overlap_2 : cX0_overlap.data.toList.drop 47 = dktX0_overlap_2 := dk_seg dksX0_overlap_1 23 rfl rfl
theorem dX0_overlap_0 : decode cX0_overlap 0 = .ok (.aload_n 0, 1) := dk_42 (dk_at dksX0_overlap_0 0 rfl rfl)
theorem dX0_overlap_1 : decode cX0_overlap 1 = .ok (.getfield 13, 3) := dk_180 0 13 (dk_at dksX0_overlap_0 1 rfl rfl)
theorem dX0_overlap_4 : decode cX0_overlap 4 = .ok (.iload_n 1, 1) := dk_27 (dk_at dksX0_overlap_0 4 rfl rfl)
theorem dX0_overlap_5 : decode cX0_overlap 5 = .ok (.invokevirtual 69, 3) := dk_182 0 69 (dk_at dksX0_overlap_0 5 rfl rfl)
theorem dX0_overlap_8 : decode cX0_overlap 8 = .ok (.ifCond .eq 14, 3) := dk_153 0 14 (dk_at dksX0_overlap_0 8 rfl rfl)
theorem dX0_overlap_11 : decode cX0_overlap 11 = .ok (.aload_n 0, 1) := dk_42 (dk_at dksX0_overlap_0 11 rfl rfl)
theorem dX0_overlap_12 : decode cX0_overlap 12 = .ok (.getfield 13, 3) := dk_180 0 13 (dk_at dksX0_overlap_0 12 rfl rfl)
theorem dX0_overlap_15 : decode cX0_overlap 15 = .ok (.iload_n 2, 1) := dk_28 (dk_at dksX0_overlap_0 15 rfl rfl)
theorem dX0_overlap_16 : decode cX0_overlap 16 = .ok (.invokevirtual 69, 3) := dk_182 0 69 (dk_at dksX0_overlap_0 16 rfl rfl)
theorem dX0_overlap_19 : decode cX0_overlap 19 = .ok (.ifCond .ne 6, 3) := dk_154 0 6 (dk_at dksX0_overlap_0 19 rfl rfl)
theorem dX0_overlap_22 : decode cX0_overlap 22 = .ok (.ldc 73, 2) := dk_18 73 (dk_at dksX0_overlap_0 22 rfl rfl)
theorem dX0_overlap_24 : decode cX0_overlap 24 = .ok (.ireturn, 1) := dk_172 (dk_at dksX0_overlap_1 0 rfl rfl)
theorem dX0_overlap_25 : decode cX0_overlap 25 = .ok (.aload_n 0, 1) := dk_42 (dk_at dksX0_overlap_1 1 rfl rfl)
theorem dX0_overlap_26 : decode cX0_overlap 26 = .ok (.getfield 13, 3) := dk_180 0 13 (dk_at dksX0_overlap_1 2 rfl rfl)
theorem dX0_overlap_29 : decode cX0_overlap 29 = .ok (.iload_n 1, 1) := dk_27 (dk_at dksX0_overlap_1 5 rfl rfl)
theorem dX0_overlap_30 : decode cX0_overlap 30 = .ok (.iload_n 2, 1) := dk_28 (dk_at dksX0_overlap_1 6 rfl rfl)
theorem dX0_overlap_31 : decode cX0_overlap 31 = .ok (.invokevirtual 152, 3) := dk_182 0 152 (dk_at dksX0_overlap_1 7 rfl rfl)
theorem dX0_overlap_34 : decode cX0_overlap 34 = .ok (.ldc2_w 156, 3) := dk_20 0 156 (dk_at dksX0_overlap_1 10 rfl rfl)
theorem dX0_overlap_37 : decode cX0_overlap 37 = .ok (.lmul, 1) := dk_105 (dk_at dksX0_overlap_1 13 rfl rfl)
theorem dX0_overlap_38 : decode cX0_overlap 38 = .ok (.aload_n 0, 1) := dk_42 (dk_at dksX0_overlap_1 14 rfl rfl)
theorem dX0_overlap_39 : decode cX0_overlap 39 = .ok (.getfield 13, 3) := dk_180 0 13 (dk_at dksX0_overlap_1 15 rfl rfl)
theorem dX0_overlap_42 : decode cX0_overlap 42 = .ok (.getfield 90, 3) := dk_180 0 90 (dk_at dksX0_overlap_1 18 rfl rfl)
theorem dX0_overlap_45 : decode cX0_overlap 45 = .ok (.i2l, 1) := dk_133 (dk_at dksX0_overlap_1 21 rfl rfl)
theorem dX0_overlap_46 : decode cX0_overlap 46 = .ok (.aload_n 0, 1) := dk_42 (dk_at dksX0_overlap_1 22 rfl rfl)
theorem dX0_overlap_47 : decode cX0_overlap 47 = .ok (.getfield 13, 3) := dk_180 0 13 (dk_at dksX0_overlap_2 0 rfl rfl)
theorem dX0_overlap_50 : decode cX0_overlap 50 = .ok (.getfield 90, 3) := dk_180 0 90 (dk_at dksX0_overlap_2 3 rfl rfl)
theorem dX0_overlap_53 : decode cX0_overlap 53 = .ok (.i2l, 1) := dk_133 (dk_at dksX0_overlap_2 6 rfl rfl)
theorem dX0_overlap_54 : decode cX0_overlap 54 = .ok (.lmul, 1) := dk_105 (dk_at dksX0_overlap_2 7 rfl rfl)
theorem dX0_overlap_55 : decode cX0_overlap 55 = .ok (.ldiv, 1) := dk_109 (dk_at dksX0_overlap_2 8 rfl rfl)
theorem dX0_overlap_56 : decode cX0_overlap 56 = .ok (.l2i, 1) := dk_136 (dk_at dksX0_overlap_2 9 rfl rfl)
theorem dX0_overlap_57 : decode cX0_overlap 57 = .ok (.ireturn, 1) := dk_172 (dk_at dksX0_overlap_2 10 rfl rfl)
abbrev cX0_errorAt : ByteArray := prog_1_method_24_code
def yX0_errorAt : MethodName := ⟨RX0, "errorAt", "(II)I"⟩
def dkwX0_errorAt_1 : List UInt8 := [153, 0, 15, 42, 180, 0, 13, 27, 28, 182, 0, 138, 167, 0, 5, 18, 3, 172]
abbrev dktX0_errorAt_1 : List UInt8 := dkwX0_errorAt_1 ++ []
def dkwX0_errorAt_0 : List UInt8 := [42, 180, 0, 13, 27, 182, 0, 69, 154, 0, 6, 18, 73, 172, 28, 4, 17, 3, 232, 184, 0, 56]
abbrev dktX0_errorAt_0 : List UInt8 := dkwX0_errorAt_0 ++ dktX0_errorAt_1
theorem dksX0_errorAt_0 : cX0_errorAt.data.toList.drop 0 = dktX0_errorAt_0 := by decide +kernel
theorem dksX0_errorAt_1 : cX0_errorAt.data.toList.drop 22 = dktX0_errorAt_1 := dk_seg dksX0_errorAt_0 22 rfl rfl
theorem dX0_errorAt_0 : decode cX0_errorAt 0 = .ok (.aload_n 0, 1) := dk_42 (dk_at dksX0_errorAt_0 0 rfl rfl)
theorem dX0_errorAt_1 : decode cX0_errorAt 1 = .ok (.getfield 13, 3) := dk_180 0 13 (dk_at dksX0_errorAt_0 1 rfl rfl)
theorem dX0_errorAt_4 : decode cX0_errorAt 4 = .ok (.iload_n 1, 1) := dk_27 (dk_at dksX0_errorAt_0 4 rfl rfl)
theorem dX0_errorAt_5 : decode cX0_errorAt 5 = .ok (.invokevirtual 69, 3) := dk_182 0 69 (dk_at dksX0_errorAt_0 5 rfl rfl)
theorem dX0_errorAt_8 : decode cX0_errorAt 8 = .ok (.ifCond .ne 6, 3) := dk_154 0 6 (dk_at dksX0_errorAt_0 8 rfl rfl)
theorem dX0_errorAt_11 : decode cX0_errorAt 11 = .ok (.ldc 73, 2) := dk_18 73 (dk_at dksX0_errorAt_0 11 rfl rfl)
theorem dX0_errorAt_13 : decode cX0_errorAt 13 = .ok (.ireturn, 1) := dk_172 (dk_at dksX0_errorAt_0 13 rfl rfl)
theorem dX0_errorAt_14 : decode cX0_errorAt 14 = .ok (.iload_n 2, 1) := dk_28 (dk_at dksX0_errorAt_0 14 rfl rfl)
theorem dX0_errorAt_15 : decode cX0_errorAt 15 = .ok (.iconst 1, 1) := dk_4 (dk_at dksX0_errorAt_0 15 rfl rfl)
theorem dX0_errorAt_16 : decode cX0_errorAt 16 = .ok (.sipush 1000, 3) := dk_17 3 232 (dk_at dksX0_errorAt_0 16 rfl rfl)
theorem dX0_errorAt_19 : decode cX0_errorAt 19 = .ok (.invokestatic 56, 3) := dk_184 0 56 (dk_at dksX0_errorAt_0 19 rfl rfl)
theorem dX0_errorAt_22 : decode cX0_errorAt 22 = .ok (.ifCond .eq 15, 3) := dk_153 0 15 (dk_at dksX0_errorAt_1 0 rfl rfl)
theorem dX0_errorAt_25 : decode cX0_errorAt 25 = .ok (.aload_n 0, 1) := dk_42 (dk_at dksX0_errorAt_1 3 rfl rfl)
theorem dX0_errorAt_26 : decode cX0_errorAt 26 = .ok (.getfield 13, 3) := dk_180 0 13 (dk_at dksX0_errorAt_1 4 rfl rfl)
theorem dX0_errorAt_29 : decode cX0_errorAt 29 = .ok (.iload_n 1, 1) := dk_27 (dk_at dksX0_errorAt_1 7 rfl rfl)
theorem dX0_errorAt_30 : decode cX0_errorAt 30 = .ok (.iload_n 2, 1) := dk_28 (dk_at dksX0_errorAt_1 8 rfl rfl)
theorem dX0_errorAt_31 : decode cX0_errorAt 31 = .ok (.invokevirtual 138, 3) := dk_182 0 138 (dk_at dksX0_errorAt_1 9 rfl rfl)
theorem dX0_errorAt_34 : decode cX0_errorAt 34 = .ok (.goto 5, 3) := dk_167 0 5 (dk_at dksX0_errorAt_1 12 rfl rfl)
theorem dX0_errorAt_37 : decode cX0_errorAt 37 = .ok (.ldc 3, 2) := dk_18 3 (dk_at dksX0_errorAt_1 15 rfl rfl)
theorem dX0_errorAt_39 : decode cX0_errorAt 39 = .ok (.ireturn, 1) := dk_172 (dk_at dksX0_errorAt_1 17 rfl rfl)
abbrev cX0_settles : ByteArray := prog_1_method_25_code
def yX0_settles : MethodName := ⟨RX0, "settles", "(II)I"⟩
def dkwX0_settles_1 : List UInt8 := [42, 180, 0, 13, 27, 28, 182, 0, 159, 167, 0, 5, 18, 3, 172]
abbrev dktX0_settles_1 : List UInt8 := dkwX0_settles_1 ++ []
def dkwX0_settles_0 : List UInt8 := [42, 180, 0, 13, 27, 182, 0, 69, 154, 0, 6, 18, 73, 172, 28, 3, 18, 158, 184, 0, 56, 153, 0, 15]
abbrev dktX0_settles_0 : List UInt8 := dkwX0_settles_0 ++ dktX0_settles_1
theorem dksX0_settles_0 : cX0_settles.data.toList.drop 0 = dktX0_settles_0 := by decide +kernel
theorem dksX0_settles_1 : cX0_settles.data.toList.drop 24 = dktX0_settles_1 := dk_seg dksX0_settles_0 24 rfl rfl
theorem dX0_settles_0 : decode cX0_settles 0 = .ok (.aload_n 0, 1) := dk_42 (dk_at dksX0_settles_0 0 rfl rfl)
theorem dX0_settles_1 : decode cX0_settles 1 = .ok (.getfield 13, 3) := dk_180 0 13 (dk_at dksX0_settles_0 1 rfl rfl)
theorem dX0_settles_4 : decode cX0_settles 4 = .ok (.iload_n 1, 1) := dk_27 (dk_at dksX0_settles_0 4 rfl rfl)
theorem dX0_settles_5 : decode cX0_settles 5 = .ok (.invokevirtual 69, 3) := dk_182 0 69 (dk_at dksX0_settles_0 5 rfl rfl)
theorem dX0_settles_8 : decode cX0_settles 8 = .ok (.ifCond .ne 6, 3) := dk_154 0 6 (dk_at dksX0_settles_0 8 rfl rfl)
theorem dX0_settles_11 : decode cX0_settles 11 = .ok (.ldc 73, 2) := dk_18 73 (dk_at dksX0_settles_0 11 rfl rfl)
theorem dX0_settles_13 : decode cX0_settles 13 = .ok (.ireturn, 1) := dk_172 (dk_at dksX0_settles_0 13 rfl rfl)
theorem dX0_settles_14 : decode cX0_settles 14 = .ok (.iload_n 2, 1) := dk_28 (dk_at dksX0_settles_0 14 rfl rfl)
theorem dX0_settles_15 : decode cX0_settles 15 = .ok (.iconst 0, 1) := dk_3 (dk_at dksX0_settles_0 15 rfl rfl)
theorem dX0_settles_16 : decode cX0_settles 16 = .ok (.ldc 158, 2) := dk_18 158 (dk_at dksX0_settles_0 16 rfl rfl)
theorem dX0_settles_18 : decode cX0_settles 18 = .ok (.invokestatic 56, 3) := dk_184 0 56 (dk_at dksX0_settles_0 18 rfl rfl)
theorem dX0_settles_21 : decode cX0_settles 21 = .ok (.ifCond .eq 15, 3) := dk_153 0 15 (dk_at dksX0_settles_0 21 rfl rfl)
theorem dX0_settles_24 : decode cX0_settles 24 = .ok (.aload_n 0, 1) := dk_42 (dk_at dksX0_settles_1 0 rfl rfl)
theorem dX0_settles_25 : decode cX0_settles 25 = .ok (.getfield 13, 3) := dk_180 0 13 (dk_at dksX0_settles_1 1 rfl rfl)
theorem dX0_settles_28 : decode cX0_settles 28 = .ok (.iload_n 1, 1) := dk_27 (dk_at dksX0_settles_1 4 rfl rfl)
theorem dX0_settles_29 : decode cX0_settles 29 = .ok (.iload_n 2, 1) := dk_28 (dk_at dksX0_settles_1 5 rfl rfl)
theorem dX0_settles_30 : decode cX0_settles 30 = .ok (.invokevirtual 159, 3) := dk_182 0 159 (dk_at dksX0_settles_1 6 rfl rfl)
theorem dX0_settles_33 : decode cX0_settles 33 = .ok (.goto 5, 3) := dk_167 0 5 (dk_at dksX0_settles_1 9 rfl rfl)
theorem dX0_settles_36 : decode cX0_settles 36 = .ok (.ldc 3, 2) := dk_18 3 (dk_at dksX0_settles_1 12 rfl rfl)
theorem dX0_settles_38 : decode cX0_settles 38 = .ok (.ireturn, 1) := dk_172 (dk_at dksX0_settles_1 14 rfl rfl)
abbrev cX0_bestSeed : ByteArray := prog_1_method_26_code
def yX0_bestSeed : MethodName := ⟨RX0, "bestSeed", "(III)I"⟩
def dkwX0_bestSeed_6 : List UInt8 := [132, 7, 1, 167, 255, 212, 29, 154, 0, 8, 21, 5, 167, 0, 5, 21, 6, 172]
abbrev dktX0_bestSeed_6 : List UInt8 := dkwX0_bestSeed_6 ++ []
def dkwX0_bestSeed_5 : List UInt8 := [182, 0, 165, 54, 8, 21, 8, 21, 6, 161, 0, 6, 167, 0, 11, 21, 7, 54, 5, 21, 8, 54, 6]
abbrev dktX0_bestSeed_5 : List UInt8 := dkwX0_bestSeed_5 ++ dktX0_bestSeed_6
def dkwX0_bestSeed_4 : List UInt8 := [54, 6, 5, 54, 7, 21, 7, 17, 0, 255, 163, 0, 42, 42, 180, 0, 13, 25, 4, 27, 21, 7, 28]
abbrev dktX0_bestSeed_4 : List UInt8 := dkwX0_bestSeed_4 ++ dktX0_bestSeed_5
def dkwX0_bestSeed_3 : List UInt8 := [180, 0, 13, 183, 0, 164, 58, 4, 4, 54, 5, 42, 180, 0, 13, 25, 4, 27, 4, 28, 182, 0, 165]
abbrev dktX0_bestSeed_3 : List UInt8 := dkwX0_bestSeed_3 ++ dktX0_bestSeed_4
def dkwX0_bestSeed_2 : List UInt8 := [185, 0, 74, 2, 0, 192, 0, 61, 185, 0, 77, 1, 0, 153, 0, 6, 18, 80, 172, 187, 0, 162, 89, 42]
abbrev dktX0_bestSeed_2 : List UInt8 := dkwX0_bestSeed_2 ++ dktX0_bestSeed_3
def dkwX0_bestSeed_1 : List UInt8 := [172, 29, 3, 4, 184, 0, 56, 154, 0, 6, 18, 3, 172, 42, 180, 0, 13, 180, 0, 45, 27]
abbrev dktX0_bestSeed_1 : List UInt8 := dkwX0_bestSeed_1 ++ dktX0_bestSeed_2
def dkwX0_bestSeed_0 : List UInt8 := [42, 180, 0, 13, 27, 182, 0, 69, 153, 0, 14, 42, 180, 0, 13, 28, 182, 0, 69, 154, 0, 6, 18, 73]
abbrev dktX0_bestSeed_0 : List UInt8 := dkwX0_bestSeed_0 ++ dktX0_bestSeed_1
theorem dksX0_bestSeed_0 : cX0_bestSeed.data.toList.drop 0 = dktX0_bestSeed_0 := by decide +kernel
theorem dksX0_bestSeed_1 : cX0_bestSeed.data.toList.drop 24 = dktX0_bestSeed_1 := dk_seg dksX0_bestSeed_0 24 rfl rfl
theorem dksX0_bestSeed_2 : cX0_bestSeed.data.toList.drop 45 = dktX0_bestSeed_2 := dk_seg dksX0_bestSeed_1 21 rfl rfl
theorem dksX0_bestSeed_3 : cX0_bestSeed.data.toList.drop 69 = dktX0_bestSeed_3 := dk_seg dksX0_bestSeed_2 24 rfl rfl
theorem dksX0_bestSeed_4 : cX0_bestSeed.data.toList.drop 92 = dktX0_bestSeed_4 := dk_seg dksX0_bestSeed_3 23 rfl rfl
theorem dksX0_bestSeed_5 : cX0_bestSeed.data.toList.drop 115 = dktX0_bestSeed_5 := dk_seg dksX0_bestSeed_4 23 rfl rfl
theorem dksX0_bestSeed_6 : cX0_bestSeed.data.toList.drop 138 = dktX0_bestSeed_6 := dk_seg dksX0_bestSeed_5 23 rfl rfl
theorem dX0_bestSeed_0 : decode cX0_bestSeed 0 = .ok (.aload_n 0, 1) := dk_42 (dk_at dksX0_bestSeed_0 0 rfl rfl)
theorem dX0_bestSeed_1 : decode cX0_bestSeed 1 = .ok (.getfield 13, 3) := dk_180 0 13 (dk_at dksX0_bestSeed_0 1 rfl rfl)
theorem dX0_bestSeed_4 : decode cX0_bestSeed 4 = .ok (.iload_n 1, 1) := dk_27 (dk_at dksX0_bestSeed_0 4 rfl rfl)
theorem dX0_bestSeed_5 : decode cX0_bestSeed 5 = .ok (.invokevirtual 69, 3) := dk_182 0 69 (dk_at dksX0_bestSeed_0 5 rfl rfl)
theorem dX0_bestSeed_8 : decode cX0_bestSeed 8 = .ok (.ifCond .eq 14, 3) := dk_153 0 14 (dk_at dksX0_bestSeed_0 8 rfl rfl)
theorem dX0_bestSeed_11 : decode cX0_bestSeed 11 = .ok (.aload_n 0, 1) := dk_42 (dk_at dksX0_bestSeed_0 11 rfl rfl)
theorem dX0_bestSeed_12 : decode cX0_bestSeed 12 = .ok (.getfield 13, 3) := dk_180 0 13 (dk_at dksX0_bestSeed_0 12 rfl rfl)
theorem dX0_bestSeed_15 : decode cX0_bestSeed 15 = .ok (.iload_n 2, 1) := dk_28 (dk_at dksX0_bestSeed_0 15 rfl rfl)
theorem dX0_bestSeed_16 : decode cX0_bestSeed 16 = .ok (.invokevirtual 69, 3) := dk_182 0 69 (dk_at dksX0_bestSeed_0 16 rfl rfl)
theorem dX0_bestSeed_19 : decode cX0_bestSeed 19 = .ok (.ifCond .ne 6, 3) := dk_154 0 6 (dk_at dksX0_bestSeed_0 19 rfl rfl)
theorem dX0_bestSeed_22 : decode cX0_bestSeed 22 = .ok (.ldc 73, 2) := dk_18 73 (dk_at dksX0_bestSeed_0 22 rfl rfl)
theorem dX0_bestSeed_24 : decode cX0_bestSeed 24 = .ok (.ireturn, 1) := dk_172 (dk_at dksX0_bestSeed_1 0 rfl rfl)
theorem dX0_bestSeed_25 : decode cX0_bestSeed 25 = .ok (.iload_n 3, 1) := dk_29 (dk_at dksX0_bestSeed_1 1 rfl rfl)
theorem dX0_bestSeed_26 : decode cX0_bestSeed 26 = .ok (.iconst 0, 1) := dk_3 (dk_at dksX0_bestSeed_1 2 rfl rfl)
theorem dX0_bestSeed_27 : decode cX0_bestSeed 27 = .ok (.iconst 1, 1) := dk_4 (dk_at dksX0_bestSeed_1 3 rfl rfl)
theorem dX0_bestSeed_28 : decode cX0_bestSeed 28 = .ok (.invokestatic 56, 3) := dk_184 0 56 (dk_at dksX0_bestSeed_1 4 rfl rfl)
theorem dX0_bestSeed_31 : decode cX0_bestSeed 31 = .ok (.ifCond .ne 6, 3) := dk_154 0 6 (dk_at dksX0_bestSeed_1 7 rfl rfl)
theorem dX0_bestSeed_34 : decode cX0_bestSeed 34 = .ok (.ldc 3, 2) := dk_18 3 (dk_at dksX0_bestSeed_1 10 rfl rfl)
theorem dX0_bestSeed_36 : decode cX0_bestSeed 36 = .ok (.ireturn, 1) := dk_172 (dk_at dksX0_bestSeed_1 12 rfl rfl)
theorem dX0_bestSeed_37 : decode cX0_bestSeed 37 = .ok (.aload_n 0, 1) := dk_42 (dk_at dksX0_bestSeed_1 13 rfl rfl)
theorem dX0_bestSeed_38 : decode cX0_bestSeed 38 = .ok (.getfield 13, 3) := dk_180 0 13 (dk_at dksX0_bestSeed_1 14 rfl rfl)
theorem dX0_bestSeed_41 : decode cX0_bestSeed 41 = .ok (.getfield 45, 3) := dk_180 0 45 (dk_at dksX0_bestSeed_1 17 rfl rfl)
theorem dX0_bestSeed_44 : decode cX0_bestSeed 44 = .ok (.iload_n 1, 1) := dk_27 (dk_at dksX0_bestSeed_1 20 rfl rfl)
theorem dX0_bestSeed_45 : decode cX0_bestSeed 45 = .ok (.invokeinterface 74 2, 5) := by decide +kernel
theorem dX0_bestSeed_50 : decode cX0_bestSeed 50 = .ok (.checkcast 61, 3) := dk_192 0 61 (dk_at dksX0_bestSeed_2 5 rfl rfl)
theorem dX0_bestSeed_53 : decode cX0_bestSeed 53 = .ok (.invokeinterface 77 1, 5) := by decide +kernel
theorem dX0_bestSeed_58 : decode cX0_bestSeed 58 = .ok (.ifCond .eq 6, 3) := dk_153 0 6 (dk_at dksX0_bestSeed_2 13 rfl rfl)
theorem dX0_bestSeed_61 : decode cX0_bestSeed 61 = .ok (.ldc 80, 2) := dk_18 80 (dk_at dksX0_bestSeed_2 16 rfl rfl)
theorem dX0_bestSeed_63 : decode cX0_bestSeed 63 = .ok (.ireturn, 1) := dk_172 (dk_at dksX0_bestSeed_2 18 rfl rfl)
theorem dX0_bestSeed_64 : decode cX0_bestSeed 64 = .ok (.new 162, 3) := dk_187 0 162 (dk_at dksX0_bestSeed_2 19 rfl rfl)
theorem dX0_bestSeed_67 : decode cX0_bestSeed 67 = .ok (.dup, 1) := dk_89 (dk_at dksX0_bestSeed_2 22 rfl rfl)
theorem dX0_bestSeed_68 : decode cX0_bestSeed 68 = .ok (.aload_n 0, 1) := dk_42 (dk_at dksX0_bestSeed_2 23 rfl rfl)
theorem dX0_bestSeed_69 : decode cX0_bestSeed 69 = .ok (.getfield 13, 3) := dk_180 0 13 (dk_at dksX0_bestSeed_3 0 rfl rfl)
theorem dX0_bestSeed_72 : decode cX0_bestSeed 72 = .ok (.invokespecial 164, 3) := dk_183 0 164 (dk_at dksX0_bestSeed_3 3 rfl rfl)
theorem dX0_bestSeed_75 : decode cX0_bestSeed 75 = .ok (.astore 4, 2) := dk_58 4 (dk_at dksX0_bestSeed_3 6 rfl rfl)
theorem dX0_bestSeed_77 : decode cX0_bestSeed 77 = .ok (.iconst 1, 1) := dk_4 (dk_at dksX0_bestSeed_3 8 rfl rfl)
theorem dX0_bestSeed_78 : decode cX0_bestSeed 78 = .ok (.istore 5, 2) := dk_54 5 (dk_at dksX0_bestSeed_3 9 rfl rfl)
theorem dX0_bestSeed_80 : decode cX0_bestSeed 80 = .ok (.aload_n 0, 1) := dk_42 (dk_at dksX0_bestSeed_3 11 rfl rfl)
theorem dX0_bestSeed_81 : decode cX0_bestSeed 81 = .ok (.getfield 13, 3) := dk_180 0 13 (dk_at dksX0_bestSeed_3 12 rfl rfl)
theorem dX0_bestSeed_84 : decode cX0_bestSeed 84 = .ok (.aload 4, 2) := dk_25 4 (dk_at dksX0_bestSeed_3 15 rfl rfl)
theorem dX0_bestSeed_86 : decode cX0_bestSeed 86 = .ok (.iload_n 1, 1) := dk_27 (dk_at dksX0_bestSeed_3 17 rfl rfl)
theorem dX0_bestSeed_87 : decode cX0_bestSeed 87 = .ok (.iconst 1, 1) := dk_4 (dk_at dksX0_bestSeed_3 18 rfl rfl)
theorem dX0_bestSeed_88 : decode cX0_bestSeed 88 = .ok (.iload_n 2, 1) := dk_28 (dk_at dksX0_bestSeed_3 19 rfl rfl)
theorem dX0_bestSeed_89 : decode cX0_bestSeed 89 = .ok (.invokevirtual 165, 3) := dk_182 0 165 (dk_at dksX0_bestSeed_3 20 rfl rfl)
theorem dX0_bestSeed_92 : decode cX0_bestSeed 92 = .ok (.istore 6, 2) := dk_54 6 (dk_at dksX0_bestSeed_4 0 rfl rfl)
theorem dX0_bestSeed_94 : decode cX0_bestSeed 94 = .ok (.iconst 2, 1) := dk_5 (dk_at dksX0_bestSeed_4 2 rfl rfl)
theorem dX0_bestSeed_95 : decode cX0_bestSeed 95 = .ok (.istore 7, 2) := dk_54 7 (dk_at dksX0_bestSeed_4 3 rfl rfl)
theorem dX0_bestSeed_97 : decode cX0_bestSeed 97 = .ok (.iload 7, 2) := dk_21 7 (dk_at dksX0_bestSeed_4 5 rfl rfl)
theorem dX0_bestSeed_99 : decode cX0_bestSeed 99 = .ok (.sipush 255, 3) := dk_17 0 255 (dk_at dksX0_bestSeed_4 7 rfl rfl)
theorem dX0_bestSeed_102 : decode cX0_bestSeed 102 = .ok (.if_icmp .gt 42, 3) := dk_163 0 42 (dk_at dksX0_bestSeed_4 10 rfl rfl)
theorem dX0_bestSeed_105 : decode cX0_bestSeed 105 = .ok (.aload_n 0, 1) := dk_42 (dk_at dksX0_bestSeed_4 13 rfl rfl)
theorem dX0_bestSeed_106 : decode cX0_bestSeed 106 = .ok (.getfield 13, 3) := dk_180 0 13 (dk_at dksX0_bestSeed_4 14 rfl rfl)
theorem dX0_bestSeed_109 : decode cX0_bestSeed 109 = .ok (.aload 4, 2) := dk_25 4 (dk_at dksX0_bestSeed_4 17 rfl rfl)
theorem dX0_bestSeed_111 : decode cX0_bestSeed 111 = .ok (.iload_n 1, 1) := dk_27 (dk_at dksX0_bestSeed_4 19 rfl rfl)
theorem dX0_bestSeed_112 : decode cX0_bestSeed 112 = .ok (.iload 7, 2) := dk_21 7 (dk_at dksX0_bestSeed_4 20 rfl rfl)
theorem dX0_bestSeed_114 : decode cX0_bestSeed 114 = .ok (.iload_n 2, 1) := dk_28 (dk_at dksX0_bestSeed_4 22 rfl rfl)
theorem dX0_bestSeed_115 : decode cX0_bestSeed 115 = .ok (.invokevirtual 165, 3) := dk_182 0 165 (dk_at dksX0_bestSeed_5 0 rfl rfl)
theorem dX0_bestSeed_118 : decode cX0_bestSeed 118 = .ok (.istore 8, 2) := dk_54 8 (dk_at dksX0_bestSeed_5 3 rfl rfl)
theorem dX0_bestSeed_120 : decode cX0_bestSeed 120 = .ok (.iload 8, 2) := dk_21 8 (dk_at dksX0_bestSeed_5 5 rfl rfl)
theorem dX0_bestSeed_122 : decode cX0_bestSeed 122 = .ok (.iload 6, 2) := dk_21 6 (dk_at dksX0_bestSeed_5 7 rfl rfl)
theorem dX0_bestSeed_124 : decode cX0_bestSeed 124 = .ok (.if_icmp .lt 6, 3) := dk_161 0 6 (dk_at dksX0_bestSeed_5 9 rfl rfl)
theorem dX0_bestSeed_127 : decode cX0_bestSeed 127 = .ok (.goto 11, 3) := dk_167 0 11 (dk_at dksX0_bestSeed_5 12 rfl rfl)
theorem dX0_bestSeed_130 : decode cX0_bestSeed 130 = .ok (.iload 7, 2) := dk_21 7 (dk_at dksX0_bestSeed_5 15 rfl rfl)
theorem dX0_bestSeed_132 : decode cX0_bestSeed 132 = .ok (.istore 5, 2) := dk_54 5 (dk_at dksX0_bestSeed_5 17 rfl rfl)
theorem dX0_bestSeed_134 : decode cX0_bestSeed 134 = .ok (.iload 8, 2) := dk_21 8 (dk_at dksX0_bestSeed_5 19 rfl rfl)
theorem dX0_bestSeed_136 : decode cX0_bestSeed 136 = .ok (.istore 6, 2) := dk_54 6 (dk_at dksX0_bestSeed_5 21 rfl rfl)
theorem dX0_bestSeed_138 : decode cX0_bestSeed 138 = .ok (.iinc 7 1, 3) := dk_132 7 1 (dk_at dksX0_bestSeed_6 0 rfl rfl)
theorem dX0_bestSeed_141 : decode cX0_bestSeed 141 = .ok (.goto (-44), 3) := dk_167 255 212 (dk_at dksX0_bestSeed_6 3 rfl rfl)
theorem dX0_bestSeed_144 : decode cX0_bestSeed 144 = .ok (.iload_n 3, 1) := dk_29 (dk_at dksX0_bestSeed_6 6 rfl rfl)
theorem dX0_bestSeed_145 : decode cX0_bestSeed 145 = .ok (.ifCond .ne 8, 3) := dk_154 0 8 (dk_at dksX0_bestSeed_6 7 rfl rfl)
theorem dX0_bestSeed_148 : decode cX0_bestSeed 148 = .ok (.iload 5, 2) := dk_21 5 (dk_at dksX0_bestSeed_6 10 rfl rfl)
theorem dX0_bestSeed_150 : decode cX0_bestSeed 150 = .ok (.goto 5, 3) := dk_167 0 5 (dk_at dksX0_bestSeed_6 12 rfl rfl)
theorem dX0_bestSeed_153 : decode cX0_bestSeed 153 = .ok (.iload 6, 2) := dk_21 6 (dk_at dksX0_bestSeed_6 15 rfl rfl)
theorem dX0_bestSeed_155 : decode cX0_bestSeed 155 = .ok (.ireturn, 1) := dk_172 (dk_at dksX0_bestSeed_6 17 rfl rfl)
abbrev cX0_unlike : ByteArray := prog_1_method_27_code
def yX0_unlike : MethodName := ⟨RX0, "unlike", "(I)I"⟩
def dkwX0_unlike_1 : List UInt8 := [172]
abbrev dktX0_unlike_1 : List UInt8 := dkwX0_unlike_1 ++ []
def dkwX0_unlike_0 : List UInt8 := [42, 180, 0, 13, 27, 182, 0, 69, 153, 0, 14, 42, 180, 0, 13, 27, 182, 0, 169, 167, 0, 5, 18, 73]
abbrev dktX0_unlike_0 : List UInt8 := dkwX0_unlike_0 ++ dktX0_unlike_1
theorem dksX0_unlike_0 : cX0_unlike.data.toList.drop 0 = dktX0_unlike_0 := by decide +kernel
theorem dksX0_unlike_1 : cX0_unlike.data.toList.drop 24 = dktX0_unlike_1 := dk_seg dksX0_unlike_0 24 rfl rfl
theorem dX0_unlike_0 : decode cX0_unlike 0 = .ok (.aload_n 0, 1) := dk_42 (dk_at dksX0_unlike_0 0 rfl rfl)
theorem dX0_unlike_1 : decode cX0_unlike 1 = .ok (.getfield 13, 3) := dk_180 0 13 (dk_at dksX0_unlike_0 1 rfl rfl)
theorem dX0_unlike_4 : decode cX0_unlike 4 = .ok (.iload_n 1, 1) := dk_27 (dk_at dksX0_unlike_0 4 rfl rfl)
theorem dX0_unlike_5 : decode cX0_unlike 5 = .ok (.invokevirtual 69, 3) := dk_182 0 69 (dk_at dksX0_unlike_0 5 rfl rfl)
theorem dX0_unlike_8 : decode cX0_unlike 8 = .ok (.ifCond .eq 14, 3) := dk_153 0 14 (dk_at dksX0_unlike_0 8 rfl rfl)
theorem dX0_unlike_11 : decode cX0_unlike 11 = .ok (.aload_n 0, 1) := dk_42 (dk_at dksX0_unlike_0 11 rfl rfl)
theorem dX0_unlike_12 : decode cX0_unlike 12 = .ok (.getfield 13, 3) := dk_180 0 13 (dk_at dksX0_unlike_0 12 rfl rfl)
theorem dX0_unlike_15 : decode cX0_unlike 15 = .ok (.iload_n 1, 1) := dk_27 (dk_at dksX0_unlike_0 15 rfl rfl)
theorem dX0_unlike_16 : decode cX0_unlike 16 = .ok (.invokevirtual 169, 3) := dk_182 0 169 (dk_at dksX0_unlike_0 16 rfl rfl)
theorem dX0_unlike_19 : decode cX0_unlike 19 = .ok (.goto 5, 3) := dk_167 0 5 (dk_at dksX0_unlike_0 19 rfl rfl)
theorem dX0_unlike_22 : decode cX0_unlike 22 = .ok (.ldc 73, 2) := dk_18 73 (dk_at dksX0_unlike_0 22 rfl rfl)
theorem dX0_unlike_24 : decode cX0_unlike 24 = .ok (.ireturn, 1) := dk_172 (dk_at dksX0_unlike_1 0 rfl rfl)
abbrev cX0_count : ByteArray := prog_1_method_30_code
def yX0_count : MethodName := ⟨RX0, "count", "(I)I"⟩
def dkwX0_count_6 : List UInt8 := [167, 0, 5, 18, 3, 172]
abbrev dktX0_count_6 : List UInt8 := dkwX0_count_6 ++ []
def dkwX0_count_5 : List UInt8 := [167, 0, 27, 42, 180, 0, 20, 185, 0, 31, 1, 0, 167, 0, 15, 42, 180, 0, 27, 182, 0, 111]
abbrev dktX0_count_5 : List UInt8 := dkwX0_count_5 ++ dktX0_count_6
def dkwX0_count_4 : List UInt8 := [167, 0, 50, 42, 180, 0, 13, 182, 0, 175, 184, 0, 182, 167, 0, 37, 42, 180, 0, 13, 182, 0, 185]
abbrev dktX0_count_4 : List UInt8 := dkwX0_count_4 ++ dktX0_count_5
def dkwX0_count_3 : List UInt8 := [167, 0, 73, 42, 180, 0, 13, 182, 0, 172, 167, 0, 63, 42, 180, 0, 13, 182, 0, 175, 184, 0, 178]
abbrev dktX0_count_3 : List UInt8 := dkwX0_count_3 ++ dktX0_count_4
def dkwX0_count_2 : List UInt8 := [42, 180, 0, 13, 180, 0, 45, 185, 0, 31, 1, 0, 167, 0, 83, 42, 180, 0, 13, 180, 0, 90]
abbrev dktX0_count_2 : List UInt8 := dkwX0_count_2 ++ dktX0_count_3
def dkwX0_count_1 : List UInt8 := [170, 0, 0, 0, 0, 0, 140, 0, 0, 0, 0, 0, 0, 0, 7, 0, 0, 0, 47, 0, 0, 0, 62, 0, 0, 0, 72, 0, 0, 0, 82, 0, 0, 0, 95, 0, 0, 0, 108, 0, 0, 0, 118, 0, 0, 0, 130]
abbrev dktX0_count_1 : List UInt8 := dkwX0_count_1 ++ dktX0_count_2
def dkwX0_count_0 : List UInt8 := [27]
abbrev dktX0_count_0 : List UInt8 := dkwX0_count_0 ++ dktX0_count_1
theorem dksX0_count_0 : cX0_count.data.toList.drop 0 = dktX0_count_0 := by decide +kernel
theorem dksX0_count_1 : cX0_count.data.toList.drop 1 = dktX0_count_1 := dk_seg dksX0_count_0 1 rfl rfl
theorem dksX0_count_2 : cX0_count.data.toList.drop 48 = dktX0_count_2 := dk_seg dksX0_count_1 47 rfl rfl
theorem dksX0_count_3 : cX0_count.data.toList.drop 70 = dktX0_count_3 := dk_seg dksX0_count_2 22 rfl rfl
theorem dksX0_count_4 : cX0_count.data.toList.drop 93 = dktX0_count_4 := dk_seg dksX0_count_3 23 rfl rfl
theorem dksX0_count_5 : cX0_count.data.toList.drop 116 = dktX0_count_5 := dk_seg dksX0_count_4 23 rfl rfl
theorem dksX0_count_6 : cX0_count.data.toList.drop 138 = dktX0_count_6 := dk_seg dksX0_count_5 22 rfl rfl
theorem dX0_count_0 : decode cX0_count 0 = .ok (.iload_n 1, 1) := dk_27 (dk_at dksX0_count_0 0 rfl rfl)
theorem dX0_count_1 : decode cX0_count 1 = .ok (.tableswitch 140 0 7 #[47, 62, 72, 82, 95, 108, 118, 130], 47) := by decide +kernel
theorem dX0_count_48 : decode cX0_count 48 = .ok (.aload_n 0, 1) := dk_42 (dk_at dksX0_count_2 0 rfl rfl)
theorem dX0_count_49 : decode cX0_count 49 = .ok (.getfield 13, 3) := dk_180 0 13 (dk_at dksX0_count_2 1 rfl rfl)
theorem dX0_count_52 : decode cX0_count 52 = .ok (.getfield 45, 3) := dk_180 0 45 (dk_at dksX0_count_2 4 rfl rfl)
theorem dX0_count_55 : decode cX0_count 55 = .ok (.invokeinterface 31 1, 5) := by decide +kernel
theorem dX0_count_60 : decode cX0_count 60 = .ok (.goto 83, 3) := dk_167 0 83 (dk_at dksX0_count_2 12 rfl rfl)
theorem dX0_count_63 : decode cX0_count 63 = .ok (.aload_n 0, 1) := dk_42 (dk_at dksX0_count_2 15 rfl rfl)
theorem dX0_count_64 : decode cX0_count 64 = .ok (.getfield 13, 3) := dk_180 0 13 (dk_at dksX0_count_2 16 rfl rfl)
theorem dX0_count_67 : decode cX0_count 67 = .ok (.getfield 90, 3) := dk_180 0 90 (dk_at dksX0_count_2 19 rfl rfl)
theorem dX0_count_70 : decode cX0_count 70 = .ok (.goto 73, 3) := dk_167 0 73 (dk_at dksX0_count_3 0 rfl rfl)
theorem dX0_count_73 : decode cX0_count 73 = .ok (.aload_n 0, 1) := dk_42 (dk_at dksX0_count_3 3 rfl rfl)
theorem dX0_count_74 : decode cX0_count 74 = .ok (.getfield 13, 3) := dk_180 0 13 (dk_at dksX0_count_3 4 rfl rfl)
theorem dX0_count_77 : decode cX0_count 77 = .ok (.invokevirtual 172, 3) := dk_182 0 172 (dk_at dksX0_count_3 7 rfl rfl)
theorem dX0_count_80 : decode cX0_count 80 = .ok (.goto 63, 3) := dk_167 0 63 (dk_at dksX0_count_3 10 rfl rfl)
theorem dX0_count_83 : decode cX0_count 83 = .ok (.aload_n 0, 1) := dk_42 (dk_at dksX0_count_3 13 rfl rfl)
theorem dX0_count_84 : decode cX0_count 84 = .ok (.getfield 13, 3) := dk_180 0 13 (dk_at dksX0_count_3 14 rfl rfl)
theorem dX0_count_87 : decode cX0_count 87 = .ok (.invokevirtual 175, 3) := dk_182 0 175 (dk_at dksX0_count_3 17 rfl rfl)
theorem dX0_count_90 : decode cX0_count 90 = .ok (.invokestatic 178, 3) := dk_184 0 178 (dk_at dksX0_count_3 20 rfl rfl)
theorem dX0_count_93 : decode cX0_count 93 = .ok (.goto 50, 3) := dk_167 0 50 (dk_at dksX0_count_4 0 rfl rfl)
theorem dX0_count_96 : decode cX0_count 96 = .ok (.aload_n 0, 1) := dk_42 (dk_at dksX0_count_4 3 rfl rfl)
theorem dX0_count_97 : decode cX0_count 97 = .ok (.getfield 13, 3) := dk_180 0 13 (dk_at dksX0_count_4 4 rfl rfl)
theorem dX0_count_100 : decode cX0_count 100 = .ok (.invokevirtual 175, 3) := dk_182 0 175 (dk_at dksX0_count_4 7 rfl rfl)
theorem dX0_count_103 : decode cX0_count 103 = .ok (.invokestatic 182, 3) := dk_184 0 182 (dk_at dksX0_count_4 10 rfl rfl)
theorem dX0_count_106 : decode cX0_count 106 = .ok (.goto 37, 3) := dk_167 0 37 (dk_at dksX0_count_4 13 rfl rfl)
theorem dX0_count_109 : decode cX0_count 109 = .ok (.aload_n 0, 1) := dk_42 (dk_at dksX0_count_4 16 rfl rfl)
theorem dX0_count_110 : decode cX0_count 110 = .ok (.getfield 13, 3) := dk_180 0 13 (dk_at dksX0_count_4 17 rfl rfl)
theorem dX0_count_113 : decode cX0_count 113 = .ok (.invokevirtual 185, 3) := dk_182 0 185 (dk_at dksX0_count_4 20 rfl rfl)
theorem dX0_count_116 : decode cX0_count 116 = .ok (.goto 27, 3) := dk_167 0 27 (dk_at dksX0_count_5 0 rfl rfl)
theorem dX0_count_119 : decode cX0_count 119 = .ok (.aload_n 0, 1) := dk_42 (dk_at dksX0_count_5 3 rfl rfl)
theorem dX0_count_120 : decode cX0_count 120 = .ok (.getfield 20, 3) := dk_180 0 20 (dk_at dksX0_count_5 4 rfl rfl)
theorem dX0_count_123 : decode cX0_count 123 = .ok (.invokeinterface 31 1, 5) := by decide +kernel
theorem dX0_count_128 : decode cX0_count 128 = .ok (.goto 15, 3) := dk_167 0 15 (dk_at dksX0_count_5 12 rfl rfl)
theorem dX0_count_131 : decode cX0_count 131 = .ok (.aload_n 0, 1) := dk_42 (dk_at dksX0_count_5 15 rfl rfl)
theorem dX0_count_132 : decode cX0_count 132 = .ok (.getfield 27, 3) := dk_180 0 27 (dk_at dksX0_count_5 16 rfl rfl)
theorem dX0_count_135 : decode cX0_count 135 = .ok (.invokevirtual 111, 3) := dk_182 0 111 (dk_at dksX0_count_5 19 rfl rfl)
theorem dX0_count_138 : decode cX0_count 138 = .ok (.goto 5, 3) := dk_167 0 5 (dk_at dksX0_count_6 0 rfl rfl)
theorem dX0_count_141 : decode cX0_count 141 = .ok (.ldc 3, 2) := dk_18 3 (dk_at dksX0_count_6 3 rfl rfl)
theorem dX0_count_143 : decode cX0_count 143 = .ok (.ireturn, 1) := dk_172 (dk_at dksX0_count_6 5 rfl rfl)
abbrev cX0_sum : ByteArray := prog_1_method_28_code
def yX0_sum : MethodName := ⟨RX0, "sum", "([I)I"⟩
def dkwX0_sum_0 : List UInt8 := [3, 60, 3, 61, 28, 42, 190, 162, 0, 15, 27, 42, 28, 46, 96, 60, 132, 2, 1, 167, 255, 241, 27, 172]
abbrev dktX0_sum_0 : List UInt8 := dkwX0_sum_0 ++ []
theorem dksX0_sum_0 : cX0_sum.data.toList.drop 0 = dktX0_sum_0 := by decide +kernel
theorem dX0_sum_0 : decode cX0_sum 0 = .ok (.iconst 0, 1) := dk_3 (dk_at dksX0_sum_0 0 rfl rfl)
theorem dX0_sum_1 : decode cX0_sum 1 = .ok (.istore_n 1, 1) := dk_60 (dk_at dksX0_sum_0 1 rfl rfl)
theorem dX0_sum_2 : decode cX0_sum 2 = .ok (.iconst 0, 1) := dk_3 (dk_at dksX0_sum_0 2 rfl rfl)
theorem dX0_sum_3 : decode cX0_sum 3 = .ok (.istore_n 2, 1) := dk_61 (dk_at dksX0_sum_0 3 rfl rfl)
theorem dX0_sum_4 : decode cX0_sum 4 = .ok (.iload_n 2, 1) := dk_28 (dk_at dksX0_sum_0 4 rfl rfl)
theorem dX0_sum_5 : decode cX0_sum 5 = .ok (.aload_n 0, 1) := dk_42 (dk_at dksX0_sum_0 5 rfl rfl)
theorem dX0_sum_6 : decode cX0_sum 6 = .ok (.arraylength, 1) := dk_190 (dk_at dksX0_sum_0 6 rfl rfl)
theorem dX0_sum_7 : decode cX0_sum 7 = .ok (.if_icmp .ge 15, 3) := dk_162 0 15 (dk_at dksX0_sum_0 7 rfl rfl)
theorem dX0_sum_10 : decode cX0_sum 10 = .ok (.iload_n 1, 1) := dk_27 (dk_at dksX0_sum_0 10 rfl rfl)
theorem dX0_sum_11 : decode cX0_sum 11 = .ok (.aload_n 0, 1) := dk_42 (dk_at dksX0_sum_0 11 rfl rfl)
theorem dX0_sum_12 : decode cX0_sum 12 = .ok (.iload_n 2, 1) := dk_28 (dk_at dksX0_sum_0 12 rfl rfl)
theorem dX0_sum_13 : decode cX0_sum 13 = .ok (.iaload, 1) := dk_46 (dk_at dksX0_sum_0 13 rfl rfl)
theorem dX0_sum_14 : decode cX0_sum 14 = .ok (.iadd, 1) := dk_96 (dk_at dksX0_sum_0 14 rfl rfl)
theorem dX0_sum_15 : decode cX0_sum 15 = .ok (.istore_n 1, 1) := dk_60 (dk_at dksX0_sum_0 15 rfl rfl)
theorem dX0_sum_16 : decode cX0_sum 16 = .ok (.iinc 2 1, 3) := dk_132 2 1 (dk_at dksX0_sum_0 16 rfl rfl)
theorem dX0_sum_19 : decode cX0_sum 19 = .ok (.goto (-15), 3) := dk_167 255 241 (dk_at dksX0_sum_0 19 rfl rfl)
theorem dX0_sum_22 : decode cX0_sum 22 = .ok (.iload_n 1, 1) := dk_27 (dk_at dksX0_sum_0 22 rfl rfl)
theorem dX0_sum_23 : decode cX0_sum 23 = .ok (.ireturn, 1) := dk_172 (dk_at dksX0_sum_0 23 rfl rfl)
abbrev cX0_greatest : ByteArray := prog_1_method_29_code
def yX0_greatest : MethodName := ⟨RX0, "greatest", "([I)I"⟩
def dkwX0_greatest_1 : List UInt8 := [27, 46, 164, 0, 7, 28, 167, 0, 4, 27, 60, 132, 2, 1, 167, 255, 232, 27, 172]
abbrev dktX0_greatest_1 : List UInt8 := dkwX0_greatest_1 ++ []
def dkwX0_greatest_0 : List UInt8 := [42, 190, 154, 0, 8, 18, 85, 167, 0, 4, 3, 60, 4, 61, 28, 42, 190, 162, 0, 24, 42, 28, 46, 42]
abbrev dktX0_greatest_0 : List UInt8 := dkwX0_greatest_0 ++ dktX0_greatest_1
theorem dksX0_greatest_0 : cX0_greatest.data.toList.drop 0 = dktX0_greatest_0 := by decide +kernel
theorem dksX0_greatest_1 : cX0_greatest.data.toList.drop 24 = dktX0_greatest_1 := dk_seg dksX0_greatest_0 24 rfl rfl
theorem dX0_greatest_0 : decode cX0_greatest 0 = .ok (.aload_n 0, 1) := dk_42 (dk_at dksX0_greatest_0 0 rfl rfl)
theorem dX0_greatest_1 : decode cX0_greatest 1 = .ok (.arraylength, 1) := dk_190 (dk_at dksX0_greatest_0 1 rfl rfl)
theorem dX0_greatest_2 : decode cX0_greatest 2 = .ok (.ifCond .ne 8, 3) := dk_154 0 8 (dk_at dksX0_greatest_0 2 rfl rfl)
theorem dX0_greatest_5 : decode cX0_greatest 5 = .ok (.ldc 85, 2) := dk_18 85 (dk_at dksX0_greatest_0 5 rfl rfl)
theorem dX0_greatest_7 : decode cX0_greatest 7 = .ok (.goto 4, 3) := dk_167 0 4 (dk_at dksX0_greatest_0 7 rfl rfl)
theorem dX0_greatest_10 : decode cX0_greatest 10 = .ok (.iconst 0, 1) := dk_3 (dk_at dksX0_greatest_0 10 rfl rfl)
theorem dX0_greatest_11 : decode cX0_greatest 11 = .ok (.istore_n 1, 1) := dk_60 (dk_at dksX0_greatest_0 11 rfl rfl)
theorem dX0_greatest_12 : decode cX0_greatest 12 = .ok (.iconst 1, 1) := dk_4 (dk_at dksX0_greatest_0 12 rfl rfl)
theorem dX0_greatest_13 : decode cX0_greatest 13 = .ok (.istore_n 2, 1) := dk_61 (dk_at dksX0_greatest_0 13 rfl rfl)
theorem dX0_greatest_14 : decode cX0_greatest 14 = .ok (.iload_n 2, 1) := dk_28 (dk_at dksX0_greatest_0 14 rfl rfl)
theorem dX0_greatest_15 : decode cX0_greatest 15 = .ok (.aload_n 0, 1) := dk_42 (dk_at dksX0_greatest_0 15 rfl rfl)
theorem dX0_greatest_16 : decode cX0_greatest 16 = .ok (.arraylength, 1) := dk_190 (dk_at dksX0_greatest_0 16 rfl rfl)
theorem dX0_greatest_17 : decode cX0_greatest 17 = .ok (.if_icmp .ge 24, 3) := dk_162 0 24 (dk_at dksX0_greatest_0 17 rfl rfl)
theorem dX0_greatest_20 : decode cX0_greatest 20 = .ok (.aload_n 0, 1) := dk_42 (dk_at dksX0_greatest_0 20 rfl rfl)
theorem dX0_greatest_21 : decode cX0_greatest 21 = .ok (.iload_n 2, 1) := dk_28 (dk_at dksX0_greatest_0 21 rfl rfl)
theorem dX0_greatest_22 : decode cX0_greatest 22 = .ok (.iaload, 1) := dk_46 (dk_at dksX0_greatest_0 22 rfl rfl)
theorem dX0_greatest_23 : decode cX0_greatest 23 = .ok (.aload_n 0, 1) := dk_42 (dk_at dksX0_greatest_0 23 rfl rfl)
theorem dX0_greatest_24 : decode cX0_greatest 24 = .ok (.iload_n 1, 1) := dk_27 (dk_at dksX0_greatest_1 0 rfl rfl)
theorem dX0_greatest_25 : decode cX0_greatest 25 = .ok (.iaload, 1) := dk_46 (dk_at dksX0_greatest_1 1 rfl rfl)
theorem dX0_greatest_26 : decode cX0_greatest 26 = .ok (.if_icmp .le 7, 3) := dk_164 0 7 (dk_at dksX0_greatest_1 2 rfl rfl)
theorem dX0_greatest_29 : decode cX0_greatest 29 = .ok (.iload_n 2, 1) := dk_28 (dk_at dksX0_greatest_1 5 rfl rfl)
theorem dX0_greatest_30 : decode cX0_greatest 30 = .ok (.goto 4, 3) := dk_167 0 4 (dk_at dksX0_greatest_1 6 rfl rfl)
theorem dX0_greatest_33 : decode cX0_greatest 33 = .ok (.iload_n 1, 1) := dk_27 (dk_at dksX0_greatest_1 9 rfl rfl)
theorem dX0_greatest_34 : decode cX0_greatest 34 = .ok (.istore_n 1, 1) := dk_60 (dk_at dksX0_greatest_1 10 rfl rfl)
theorem dX0_greatest_35 : decode cX0_greatest 35 = .ok (.iinc 2 1, 3) := dk_132 2 1 (dk_at dksX0_greatest_1 11 rfl rfl)
theorem dX0_greatest_38 : decode cX0_greatest 38 = .ok (.goto (-24), 3) := dk_167 255 232 (dk_at dksX0_greatest_1 14 rfl rfl)
theorem dX0_greatest_41 : decode cX0_greatest 41 = .ok (.iload_n 1, 1) := dk_27 (dk_at dksX0_greatest_1 17 rfl rfl)
theorem dX0_greatest_42 : decode cX0_greatest 42 = .ok (.ireturn, 1) := dk_172 (dk_at dksX0_greatest_1 18 rfl rfl)
theorem q44 : (Jvm.Cond.initialized "ShareStreams") ∈ lw_all := lw_g (lw_at lw_m1 1 rfl) rfl
theorem q67 : (Jvm.Cond.instantiable "ShareStreams" (4 : Nat)) ∈ lw_all := lw_g (lw_at lw_m1 24 rfl) rfl
theorem q69 : (Jvm.Cond.instanceMethod ({ cls := "ShareStreams", name := "<init>", desc := "()V" } : Jvm.MethodName)) ∈ lw_all := lw_g (lw_at lw_m1 26 rfl) rfl
theorem q70 : (Jvm.Cond.code ({ cls := "ShareStreams", name := "<init>", desc := "()V" } : Jvm.MethodName) prog_1_method_4_code (1 : Nat) (Option.none : Option Jvm.ClassFile.FieldType)) ∈ lw_all := lw_g (lw_at lw_m1 27 rfl) rfl
theorem q71 : (Jvm.Cond.methodLink "ShareStreams" (4 : Nat) ({ cls := "java/lang/Object", name := "<init>", desc := "()V" } : Jvm.MethodName)) ∈ lw_all := lw_g (lw_at lw_m1 28 rfl) rfl
theorem q74 : (Jvm.Cond.classLink "ShareStreams" (10 : Nat) "ShareStreams$Bench") ∈ lw_all := lw_g (lw_at lw_m1 31 rfl) rfl
theorem q76 : (Jvm.Cond.methodLink "ShareStreams" (12 : Nat) ({ cls := "ShareStreams$Bench", name := "<init>", desc := "()V" } : Jvm.MethodName)) ∈ lw_all := lw_g (lw_at lw_m1 33 rfl) rfl
theorem q108 : (Jvm.Cond.fieldLinkNest "ShareStreams" (45 : Nat) "ShareStreams$Bench" "lines" "Ljava/util/List;" "ShareStreams") ∈ lw_tbl := lw_at lw_m1 65 rfl
theorem q110 : (Jvm.Cond.fieldLinkNest "ShareStreams" (90 : Nat) "ShareStreams$Bench" "length" "I" "ShareStreams") ∈ lw_tbl := lw_at lw_m1 67 rfl
theorem q116 : (Jvm.Cond.classLink "ShareStreams" (17 : Nat) "java/util/ArrayList") ∈ lw_all := lw_g (lw_at lw_m1 73 rfl) rfl
theorem q117 : (Jvm.Cond.methodLink "ShareStreams" (19 : Nat) ({ cls := "java/util/ArrayList", name := "<init>", desc := "()V" } : Jvm.MethodName)) ∈ lw_all := lw_g (lw_at lw_m1 74 rfl) rfl
theorem q118 : (Jvm.Cond.classLink "ShareStreams" (24 : Nat) "java/lang/StringBuilder") ∈ lw_all := lw_g (lw_at lw_m1 75 rfl) rfl
theorem q120 : (Jvm.Cond.methodLink "ShareStreams" (26 : Nat) ({ cls := "java/lang/StringBuilder", name := "<init>", desc := "()V" } : Jvm.MethodName)) ∈ lw_all := lw_g (lw_at lw_m1 77 rfl) rfl
theorem q150 : (Jvm.Cond.fieldLink "ShareStreams" (13 : Nat) "ShareStreams" "bench" "LShareStreams$Bench;") ∈ lw_all := lw_g (lw_at lw_m1 107 rfl) rfl
theorem q151 : (Jvm.Cond.fieldLink "ShareStreams" (124 : Nat) "ShareStreams" "snapshot" "LShareStreams$Bench;") ∈ lw_all := lw_g (lw_at lw_m1 108 rfl) rfl
theorem q152 : (Jvm.Cond.fieldLink "ShareStreams" (20 : Nat) "ShareStreams" "history" "Ljava/util/List;") ∈ lw_all := lw_g (lw_at lw_m1 109 rfl) rfl
theorem q153 : (Jvm.Cond.fieldLink "ShareStreams" (27 : Nat) "ShareStreams" "text" "Ljava/lang/StringBuilder;") ∈ lw_all := lw_g (lw_at lw_m1 110 rfl) rfl
theorem q154 : (Jvm.Cond.lays "ShareStreams" "ShareStreams" "bench" "LShareStreams$Bench;") ∈ lw_all := lw_g (lw_at lw_m1 111 rfl) rfl
theorem q155 : (Jvm.Cond.soleField "ShareStreams" "bench") ∈ lw_all := lw_g (lw_at lw_m1 112 rfl) rfl
theorem q156 : (Jvm.Cond.lays "ShareStreams" "ShareStreams" "snapshot" "LShareStreams$Bench;") ∈ lw_all := lw_g (lw_at lw_m1 113 rfl) rfl
theorem q157 : (Jvm.Cond.soleField "ShareStreams" "snapshot") ∈ lw_all := lw_g (lw_at lw_m1 114 rfl) rfl
theorem q158 : (Jvm.Cond.laysFinal "ShareStreams" "ShareStreams" "history" "Ljava/util/List;") ∈ lw_all := lw_g (lw_at lw_m1 115 rfl) rfl
theorem q159 : (Jvm.Cond.soleField "ShareStreams" "history") ∈ lw_all := lw_g (lw_at lw_m1 116 rfl) rfl
theorem q160 : (Jvm.Cond.laysFinal "ShareStreams" "ShareStreams" "text" "Ljava/lang/StringBuilder;") ∈ lw_all := lw_g (lw_at lw_m1 117 rfl) rfl
theorem q161 : (Jvm.Cond.soleField "ShareStreams" "text") ∈ lw_all := lw_g (lw_at lw_m1 118 rfl) rfl
theorem q162 : (Jvm.Cond.superclass "ShareStreams" "java/lang/Object") ∈ lw_all := lw_g (lw_at lw_m1 119 rfl) rfl
theorem q164 : (Jvm.Cond.instanceMethod ({ cls := "ShareStreams", name := "source", desc := "(II)I" } : Jvm.MethodName)) ∈ lw_all := lw_g (lw_at lw_m1 121 rfl) rfl
theorem q165 : (Jvm.Cond.selects "ShareStreams" ({ cls := "ShareStreams", name := "source", desc := "(II)I" } : Jvm.MethodName) ({ cls := "ShareStreams", name := "source", desc := "(II)I" } : Jvm.MethodName)) ∈ lw_all := lw_g (lw_at lw_m1 122 rfl) rfl
theorem q166 : (Jvm.Cond.code ({ cls := "ShareStreams", name := "source", desc := "(II)I" } : Jvm.MethodName) prog_1_method_7_code (3 : Nat) (Option.some Jvm.ClassFile.FieldType.int)) ∈ lw_all := lw_g (lw_at lw_m1 123 rfl) rfl
theorem q167 : (Jvm.Cond.methodLink "ShareStreams" (56 : Nat) ({ cls := "ShareStreams", name := "inRange", desc := "(III)Z" } : Jvm.MethodName)) ∈ lw_all := lw_g (lw_at lw_m1 124 rfl) rfl
theorem q168 : (Jvm.Cond.static ({ cls := "ShareStreams", name := "inRange", desc := "(III)Z" } : Jvm.MethodName)) ∈ lw_all := lw_g (lw_at lw_m1 125 rfl) rfl
theorem q169 : (Jvm.Cond.code ({ cls := "ShareStreams", name := "inRange", desc := "(III)Z" } : Jvm.MethodName) prog_1_method_1_code (3 : Nat) (Option.some Jvm.ClassFile.FieldType.boolean)) ∈ lw_all := lw_g (lw_at lw_m1 126 rfl) rfl
theorem q170 : (Jvm.Cond.methodLink "ShareStreams" (60 : Nat) ({ cls := "ShareStreams$Line", name := "of", desc := "(I[I)LShareStreams$Line;" } : Jvm.MethodName)) ∈ lw_all := lw_g (lw_at lw_m1 127 rfl) rfl
theorem q187 : (Jvm.Cond.methodLink "ShareStreams" (66 : Nat) ({ cls := "ShareStreams", name := "add", desc := "(LShareStreams$Line;)I" } : Jvm.MethodName)) ∈ lw_all := lw_g (lw_at lw_m1 144 rfl) rfl
theorem q188 : (Jvm.Cond.privateMethod ({ cls := "ShareStreams", name := "add", desc := "(LShareStreams$Line;)I" } : Jvm.MethodName)) ∈ lw_tbl := lw_at lw_m1 145 rfl
theorem q189 : (Jvm.Cond.instanceMethod ({ cls := "ShareStreams", name := "add", desc := "(LShareStreams$Line;)I" } : Jvm.MethodName)) ∈ lw_all := lw_g (lw_at lw_m1 146 rfl) rfl
theorem q190 : (Jvm.Cond.code ({ cls := "ShareStreams", name := "add", desc := "(LShareStreams$Line;)I" } : Jvm.MethodName) prog_1_method_6_code (4 : Nat) (Option.some Jvm.ClassFile.FieldType.int)) ∈ lw_all := lw_g (lw_at lw_m1 147 rfl) rfl
theorem q191 : (Jvm.Cond.interfaceEntry "ShareStreams" (31 : Nat)) ∈ lw_tbl := lw_at lw_m1 148 rfl
theorem q192 : (Jvm.Cond.methodLink "ShareStreams" (31 : Nat) ({ cls := "java/util/List", name := "size", desc := "()I" } : Jvm.MethodName)) ∈ lw_all := lw_g (lw_at lw_m1 149 rfl) rfl
theorem q201 : (Jvm.Cond.constant "ShareStreams" (48 : Nat) (-100000003 : Int32)) ∈ lw_all := lw_g (lw_at lw_m1 158 rfl) rfl
theorem q202 : (Jvm.Cond.methodLink "ShareStreams" (49 : Nat) ({ cls := "ShareStreams$Bench", name := "<init>", desc := "(LShareStreams$Bench;)V" } : Jvm.MethodName)) ∈ lw_all := lw_g (lw_at lw_m1 159 rfl) rfl
theorem q264 : (Jvm.Cond.selects "ShareStreams" ({ cls := "java/lang/Object", name := "getClass", desc := "()Ljava/lang/Class;" } : Jvm.MethodName) ({ cls := "java/lang/Object", name := "getClass", desc := "()Ljava/lang/Class;" } : Jvm.MethodName)) ∈ lw_all := lw_g (lw_at lw_m1 221 rfl) rfl
theorem q288 : (Jvm.Cond.interfaceEntry "ShareStreams" (41 : Nat)) ∈ lw_tbl := lw_at lw_m2 5 rfl
theorem q289 : (Jvm.Cond.methodLink "ShareStreams" (41 : Nat) ({ cls := "java/util/List", name := "add", desc := "(Ljava/lang/Object;)Z" } : Jvm.MethodName)) ∈ lw_all := lw_g (lw_at lw_m2 6 rfl) rfl
theorem q290 : (Jvm.Cond.methodLink "ShareStreams" (52 : Nat) ({ cls := "ShareStreams", name := "accept", desc := "(LShareStreams$Bench;I)I" } : Jvm.MethodName)) ∈ lw_all := lw_g (lw_at lw_m2 7 rfl) rfl
theorem q291 : (Jvm.Cond.privateMethod ({ cls := "ShareStreams", name := "accept", desc := "(LShareStreams$Bench;I)I" } : Jvm.MethodName)) ∈ lw_tbl := lw_at lw_m2 8 rfl
theorem q292 : (Jvm.Cond.instanceMethod ({ cls := "ShareStreams", name := "accept", desc := "(LShareStreams$Bench;I)I" } : Jvm.MethodName)) ∈ lw_all := lw_g (lw_at lw_m2 9 rfl) rfl
theorem q293 : (Jvm.Cond.code ({ cls := "ShareStreams", name := "accept", desc := "(LShareStreams$Bench;I)I" } : Jvm.MethodName) prog_1_method_5_code (3 : Nat) (Option.some Jvm.ClassFile.FieldType.int)) ∈ lw_all := lw_g (lw_at lw_m2 10 rfl) rfl
theorem q294 : (Jvm.Cond.interfaceEntry "ShareStreams" (37 : Nat)) ∈ lw_tbl := lw_at lw_m2 11 rfl
theorem q295 : (Jvm.Cond.methodLink "ShareStreams" (37 : Nat) ({ cls := "java/util/List", name := "remove", desc := "(I)Ljava/lang/Object;" } : Jvm.MethodName)) ∈ lw_all := lw_g (lw_at lw_m2 12 rfl) rfl
theorem q308 : (Jvm.Cond.constant "ShareStreams" (3 : Nat) (-100000002 : Int32)) ∈ lw_all := lw_g (lw_at lw_m2 25 rfl) rfl
theorem q310 : (Jvm.Cond.instanceMethod ({ cls := "ShareStreams", name := "gate", desc := "(III)I" } : Jvm.MethodName)) ∈ lw_all := lw_g (lw_at lw_m2 27 rfl) rfl
theorem q311 : (Jvm.Cond.selects "ShareStreams" ({ cls := "ShareStreams", name := "gate", desc := "(III)I" } : Jvm.MethodName) ({ cls := "ShareStreams", name := "gate", desc := "(III)I" } : Jvm.MethodName)) ∈ lw_all := lw_g (lw_at lw_m2 28 rfl) rfl
theorem q312 : (Jvm.Cond.code ({ cls := "ShareStreams", name := "gate", desc := "(III)I" } : Jvm.MethodName) prog_1_method_8_code (4 : Nat) (Option.some Jvm.ClassFile.FieldType.int)) ∈ lw_all := lw_g (lw_at lw_m2 29 rfl) rfl
theorem q313 : (Jvm.Cond.methodLink "ShareStreams" (69 : Nat) ({ cls := "ShareStreams$Bench", name := "isLine", desc := "(I)Z" } : Jvm.MethodName)) ∈ lw_all := lw_g (lw_at lw_m2 30 rfl) rfl
theorem q318 : (Jvm.Cond.constant "ShareStreams" (73 : Nat) (-100000001 : Int32)) ∈ lw_all := lw_g (lw_at lw_m2 35 rfl) rfl
theorem q320 : (Jvm.Cond.instanceMethod ({ cls := "ShareStreams", name := "choose", desc := "(III)I" } : Jvm.MethodName)) ∈ lw_all := lw_g (lw_at lw_m2 37 rfl) rfl
theorem q321 : (Jvm.Cond.selects "ShareStreams" ({ cls := "ShareStreams", name := "choose", desc := "(III)I" } : Jvm.MethodName) ({ cls := "ShareStreams", name := "choose", desc := "(III)I" } : Jvm.MethodName)) ∈ lw_all := lw_g (lw_at lw_m2 38 rfl) rfl
theorem q322 : (Jvm.Cond.code ({ cls := "ShareStreams", name := "choose", desc := "(III)I" } : Jvm.MethodName) prog_1_method_9_code (4 : Nat) (Option.some Jvm.ClassFile.FieldType.int)) ∈ lw_all := lw_g (lw_at lw_m2 39 rfl) rfl
theorem q324 : (Jvm.Cond.instanceMethod ({ cls := "ShareStreams", name := "turn", desc := "(I)I" } : Jvm.MethodName)) ∈ lw_all := lw_g (lw_at lw_m2 41 rfl) rfl
theorem q325 : (Jvm.Cond.selects "ShareStreams" ({ cls := "ShareStreams", name := "turn", desc := "(I)I" } : Jvm.MethodName) ({ cls := "ShareStreams", name := "turn", desc := "(I)I" } : Jvm.MethodName)) ∈ lw_all := lw_g (lw_at lw_m2 42 rfl) rfl
theorem q326 : (Jvm.Cond.code ({ cls := "ShareStreams", name := "turn", desc := "(I)I" } : Jvm.MethodName) prog_1_method_10_code (2 : Nat) (Option.some Jvm.ClassFile.FieldType.int)) ∈ lw_all := lw_g (lw_at lw_m2 43 rfl) rfl
theorem q328 : (Jvm.Cond.instanceMethod ({ cls := "ShareStreams", name := "delay", desc := "(II)I" } : Jvm.MethodName)) ∈ lw_all := lw_g (lw_at lw_m2 45 rfl) rfl
theorem q329 : (Jvm.Cond.selects "ShareStreams" ({ cls := "ShareStreams", name := "delay", desc := "(II)I" } : Jvm.MethodName) ({ cls := "ShareStreams", name := "delay", desc := "(II)I" } : Jvm.MethodName)) ∈ lw_all := lw_g (lw_at lw_m2 46 rfl) rfl
theorem q330 : (Jvm.Cond.code ({ cls := "ShareStreams", name := "delay", desc := "(II)I" } : Jvm.MethodName) prog_1_method_11_code (3 : Nat) (Option.some Jvm.ClassFile.FieldType.int)) ∈ lw_all := lw_g (lw_at lw_m2 47 rfl) rfl
theorem q332 : (Jvm.Cond.instanceMethod ({ cls := "ShareStreams", name := "reseed", desc := "(III)I" } : Jvm.MethodName)) ∈ lw_all := lw_g (lw_at lw_m2 49 rfl) rfl
theorem q333 : (Jvm.Cond.selects "ShareStreams" ({ cls := "ShareStreams", name := "reseed", desc := "(III)I" } : Jvm.MethodName) ({ cls := "ShareStreams", name := "reseed", desc := "(III)I" } : Jvm.MethodName)) ∈ lw_all := lw_g (lw_at lw_m2 50 rfl) rfl
theorem q334 : (Jvm.Cond.code ({ cls := "ShareStreams", name := "reseed", desc := "(III)I" } : Jvm.MethodName) prog_1_method_12_code (6 : Nat) (Option.some Jvm.ClassFile.FieldType.int)) ∈ lw_all := lw_g (lw_at lw_m2 51 rfl) rfl
theorem q335 : (Jvm.Cond.interfaceEntry "ShareStreams" (74 : Nat)) ∈ lw_tbl := lw_at lw_m2 52 rfl
theorem q336 : (Jvm.Cond.methodLink "ShareStreams" (74 : Nat) ({ cls := "java/util/List", name := "get", desc := "(I)Ljava/lang/Object;" } : Jvm.MethodName)) ∈ lw_all := lw_g (lw_at lw_m2 53 rfl) rfl
theorem q337 : (Jvm.Cond.classLink "ShareStreams" (61 : Nat) "ShareStreams$Line") ∈ lw_all := lw_g (lw_at lw_m2 54 rfl) rfl
theorem q338 : (Jvm.Cond.interfaceEntry "ShareStreams" (77 : Nat)) ∈ lw_tbl := lw_at lw_m2 55 rfl
theorem q339 : (Jvm.Cond.methodLink "ShareStreams" (77 : Nat) ({ cls := "ShareStreams$Line", name := "kind", desc := "()I" } : Jvm.MethodName)) ∈ lw_all := lw_g (lw_at lw_m2 56 rfl) rfl
theorem q348 : (Jvm.Cond.constant "ShareStreams" (80 : Nat) (-100000004 : Int32)) ∈ lw_all := lw_g (lw_at lw_m2 65 rfl) rfl
theorem q349 : (Jvm.Cond.interfaceEntry "ShareStreams" (81 : Nat)) ∈ lw_tbl := lw_at lw_m2 66 rfl
theorem q350 : (Jvm.Cond.methodLink "ShareStreams" (81 : Nat) ({ cls := "ShareStreams$Line", name := "number", desc := "(I)I" } : Jvm.MethodName)) ∈ lw_all := lw_g (lw_at lw_m2 67 rfl) rfl
theorem q359 : (Jvm.Cond.constant "ShareStreams" (85 : Nat) (-100000005 : Int32)) ∈ lw_all := lw_g (lw_at lw_m2 76 rfl) rfl
theorem q360 : (Jvm.Cond.interfaceEntry "ShareStreams" (86 : Nat)) ∈ lw_tbl := lw_at lw_m2 77 rfl
theorem q361 : (Jvm.Cond.methodLink "ShareStreams" (86 : Nat) ({ cls := "java/util/List", name := "set", desc := "(ILjava/lang/Object;)Ljava/lang/Object;" } : Jvm.MethodName)) ∈ lw_all := lw_g (lw_at lw_m2 78 rfl) rfl
theorem q370 : (Jvm.Cond.instanceMethod ({ cls := "ShareStreams", name := "removeLast", desc := "()I" } : Jvm.MethodName)) ∈ lw_all := lw_g (lw_at lw_m2 87 rfl) rfl
theorem q371 : (Jvm.Cond.selects "ShareStreams" ({ cls := "ShareStreams", name := "removeLast", desc := "()I" } : Jvm.MethodName) ({ cls := "ShareStreams", name := "removeLast", desc := "()I" } : Jvm.MethodName)) ∈ lw_all := lw_g (lw_at lw_m2 88 rfl) rfl
theorem q372 : (Jvm.Cond.code ({ cls := "ShareStreams", name := "removeLast", desc := "()I" } : Jvm.MethodName) prog_1_method_13_code (3 : Nat) (Option.some Jvm.ClassFile.FieldType.int)) ∈ lw_all := lw_g (lw_at lw_m2 89 rfl) rfl
theorem q374 : (Jvm.Cond.instanceMethod ({ cls := "ShareStreams", name := "setLength", desc := "(I)I" } : Jvm.MethodName)) ∈ lw_all := lw_g (lw_at lw_m2 91 rfl) rfl
theorem q375 : (Jvm.Cond.selects "ShareStreams" ({ cls := "ShareStreams", name := "setLength", desc := "(I)I" } : Jvm.MethodName) ({ cls := "ShareStreams", name := "setLength", desc := "(I)I" } : Jvm.MethodName)) ∈ lw_all := lw_g (lw_at lw_m2 92 rfl) rfl
theorem q376 : (Jvm.Cond.code ({ cls := "ShareStreams", name := "setLength", desc := "(I)I" } : Jvm.MethodName) prog_1_method_14_code (4 : Nat) (Option.some Jvm.ClassFile.FieldType.int)) ∈ lw_all := lw_g (lw_at lw_m2 93 rfl) rfl
theorem q378 : (Jvm.Cond.instanceMethod ({ cls := "ShareStreams", name := "readCircuit", desc := "()I" } : Jvm.MethodName)) ∈ lw_all := lw_g (lw_at lw_m2 95 rfl) rfl
theorem q379 : (Jvm.Cond.selects "ShareStreams" ({ cls := "ShareStreams", name := "readCircuit", desc := "()I" } : Jvm.MethodName) ({ cls := "ShareStreams", name := "readCircuit", desc := "()I" } : Jvm.MethodName)) ∈ lw_all := lw_g (lw_at lw_m2 96 rfl) rfl
theorem q380 : (Jvm.Cond.code ({ cls := "ShareStreams", name := "readCircuit", desc := "()I" } : Jvm.MethodName) prog_1_method_15_code (4 : Nat) (Option.some Jvm.ClassFile.FieldType.int)) ∈ lw_all := lw_g (lw_at lw_m2 97 rfl) rfl
theorem q381 : (Jvm.Cond.classLink "ShareStreams" (94 : Nat) "ShareStreams$Reader") ∈ lw_all := lw_g (lw_at lw_m2 98 rfl) rfl
theorem q383 : (Jvm.Cond.methodLink "ShareStreams" (96 : Nat) ({ cls := "ShareStreams$Reader", name := "<init>", desc := "(Ljava/lang/CharSequence;)V" } : Jvm.MethodName)) ∈ lw_all := lw_g (lw_at lw_m2 100 rfl) rfl
theorem q391 : (Jvm.Cond.fieldLinkNest "ShareStreams" (107 : Nat) "ShareStreams$Reader" "lines" "Ljava/util/List;" "ShareStreams") ∈ lw_tbl := lw_at lw_m2 108 rfl
theorem q393 : (Jvm.Cond.fieldLinkNest "ShareStreams" (104 : Nat) "ShareStreams$Reader" "place" "I" "ShareStreams") ∈ lw_tbl := lw_at lw_m2 110 rfl
theorem q401 : (Jvm.Cond.methodLink "ShareStreams" (99 : Nat) ({ cls := "ShareStreams$Reader", name := "reads", desc := "()Z" } : Jvm.MethodName)) ∈ lw_all := lw_g (lw_at lw_m2 118 rfl) rfl
theorem q589 : (Jvm.Cond.constant "ShareStreams" (103 : Nat) (-100000100 : Int32)) ∈ lw_all := lw_g (lw_at lw_m3 66 rfl) rfl
theorem q590 : (Jvm.Cond.interfaceEntry "ShareStreams" (108 : Nat)) ∈ lw_tbl := lw_at lw_m3 67 rfl
theorem q591 : (Jvm.Cond.methodLink "ShareStreams" (108 : Nat) ({ cls := "ShareStreams$Line", name := "isBehind", desc := "(I)Z" } : Jvm.MethodName)) ∈ lw_all := lw_g (lw_at lw_m3 68 rfl) rfl
theorem q611 : (Jvm.Cond.instanceMethod ({ cls := "ShareStreams", name := "type", desc := "(C)I" } : Jvm.MethodName)) ∈ lw_all := lw_g (lw_at lw_m3 88 rfl) rfl
theorem q612 : (Jvm.Cond.selects "ShareStreams" ({ cls := "ShareStreams", name := "type", desc := "(C)I" } : Jvm.MethodName) ({ cls := "ShareStreams", name := "type", desc := "(C)I" } : Jvm.MethodName)) ∈ lw_all := lw_g (lw_at lw_m3 89 rfl) rfl
theorem q613 : (Jvm.Cond.code ({ cls := "ShareStreams", name := "type", desc := "(C)I" } : Jvm.MethodName) prog_1_method_16_code (2 : Nat) (Option.some Jvm.ClassFile.FieldType.int)) ∈ lw_all := lw_g (lw_at lw_m3 90 rfl) rfl
theorem q614 : (Jvm.Cond.methodLink "ShareStreams" (111 : Nat) ({ cls := "java/lang/StringBuilder", name := "length", desc := "()I" } : Jvm.MethodName)) ∈ lw_all := lw_g (lw_at lw_m3 91 rfl) rfl
theorem q615 : (Jvm.Cond.methodLink "ShareStreams" (113 : Nat) ({ cls := "java/lang/StringBuilder", name := "append", desc := "(C)Ljava/lang/StringBuilder;" } : Jvm.MethodName)) ∈ lw_all := lw_g (lw_at lw_m3 92 rfl) rfl
theorem q676 : (Jvm.Cond.instanceMethod ({ cls := "ShareStreams", name := "clearText", desc := "()I" } : Jvm.MethodName)) ∈ lw_all := lw_g (lw_at lw_m3 153 rfl) rfl
theorem q677 : (Jvm.Cond.selects "ShareStreams" ({ cls := "ShareStreams", name := "clearText", desc := "()I" } : Jvm.MethodName) ({ cls := "ShareStreams", name := "clearText", desc := "()I" } : Jvm.MethodName)) ∈ lw_all := lw_g (lw_at lw_m3 154 rfl) rfl
theorem q678 : (Jvm.Cond.code ({ cls := "ShareStreams", name := "clearText", desc := "()I" } : Jvm.MethodName) prog_1_method_17_code (2 : Nat) (Option.some Jvm.ClassFile.FieldType.int)) ∈ lw_all := lw_g (lw_at lw_m3 155 rfl) rfl
theorem q679 : (Jvm.Cond.methodLink "ShareStreams" (117 : Nat) ({ cls := "java/lang/StringBuilder", name := "setLength", desc := "(I)V" } : Jvm.MethodName)) ∈ lw_all := lw_g (lw_at lw_m3 156 rfl) rfl
theorem q700 : (Jvm.Cond.instanceMethod ({ cls := "ShareStreams", name := "undo", desc := "()I" } : Jvm.MethodName)) ∈ lw_all := lw_g (lw_at lw_m3 177 rfl) rfl
theorem q701 : (Jvm.Cond.selects "ShareStreams" ({ cls := "ShareStreams", name := "undo", desc := "()I" } : Jvm.MethodName) ({ cls := "ShareStreams", name := "undo", desc := "()I" } : Jvm.MethodName)) ∈ lw_all := lw_g (lw_at lw_m3 178 rfl) rfl
theorem q702 : (Jvm.Cond.code ({ cls := "ShareStreams", name := "undo", desc := "()I" } : Jvm.MethodName) prog_1_method_18_code (1 : Nat) (Option.some Jvm.ClassFile.FieldType.int)) ∈ lw_all := lw_g (lw_at lw_m3 179 rfl) rfl
theorem q703 : (Jvm.Cond.interfaceEntry "ShareStreams" (121 : Nat)) ∈ lw_tbl := lw_at lw_m3 180 rfl
theorem q704 : (Jvm.Cond.methodLink "ShareStreams" (121 : Nat) ({ cls := "java/util/List", name := "isEmpty", desc := "()Z" } : Jvm.MethodName)) ∈ lw_all := lw_g (lw_at lw_m3 181 rfl) rfl
theorem q713 : (Jvm.Cond.instanceMethod ({ cls := "ShareStreams", name := "keep", desc := "()I" } : Jvm.MethodName)) ∈ lw_all := lw_g (lw_at lw_m3 190 rfl) rfl
theorem q714 : (Jvm.Cond.selects "ShareStreams" ({ cls := "ShareStreams", name := "keep", desc := "()I" } : Jvm.MethodName) ({ cls := "ShareStreams", name := "keep", desc := "()I" } : Jvm.MethodName)) ∈ lw_all := lw_g (lw_at lw_m3 191 rfl) rfl
theorem q715 : (Jvm.Cond.code ({ cls := "ShareStreams", name := "keep", desc := "()I" } : Jvm.MethodName) prog_1_method_19_code (1 : Nat) (Option.some Jvm.ClassFile.FieldType.int)) ∈ lw_all := lw_g (lw_at lw_m3 192 rfl) rfl
theorem q717 : (Jvm.Cond.instanceMethod ({ cls := "ShareStreams", name := "restore", desc := "()I" } : Jvm.MethodName)) ∈ lw_all := lw_g (lw_at lw_m3 194 rfl) rfl
theorem q718 : (Jvm.Cond.selects "ShareStreams" ({ cls := "ShareStreams", name := "restore", desc := "()I" } : Jvm.MethodName) ({ cls := "ShareStreams", name := "restore", desc := "()I" } : Jvm.MethodName)) ∈ lw_all := lw_g (lw_at lw_m3 195 rfl) rfl
theorem q719 : (Jvm.Cond.code ({ cls := "ShareStreams", name := "restore", desc := "()I" } : Jvm.MethodName) prog_1_method_20_code (1 : Nat) (Option.some Jvm.ClassFile.FieldType.int)) ∈ lw_all := lw_g (lw_at lw_m3 196 rfl) rfl
theorem q721 : (Jvm.Cond.instanceMethod ({ cls := "ShareStreams", name := "line", desc := "(II)I" } : Jvm.MethodName)) ∈ lw_all := lw_g (lw_at lw_m3 198 rfl) rfl
theorem q722 : (Jvm.Cond.selects "ShareStreams" ({ cls := "ShareStreams", name := "line", desc := "(II)I" } : Jvm.MethodName) ({ cls := "ShareStreams", name := "line", desc := "(II)I" } : Jvm.MethodName)) ∈ lw_all := lw_g (lw_at lw_m3 199 rfl) rfl
theorem q723 : (Jvm.Cond.code ({ cls := "ShareStreams", name := "line", desc := "(II)I" } : Jvm.MethodName) prog_1_method_21_code (4 : Nat) (Option.some Jvm.ClassFile.FieldType.int)) ∈ lw_all := lw_g (lw_at lw_m3 200 rfl) rfl
theorem q724 : (Jvm.Cond.methodLink "ShareStreams" (127 : Nat) ({ cls := "ShareStreams$Bench", name := "countOf", desc := "(II)I" } : Jvm.MethodName)) ∈ lw_all := lw_g (lw_at lw_m3 201 rfl) rfl
theorem q774 : (Jvm.Cond.static ({ cls := "ShareStreams", name := "next", desc := "(I)I" } : Jvm.MethodName)) ∈ lw_all := lw_g (lw_at lw_m4 11 rfl) rfl
theorem q775 : (Jvm.Cond.code ({ cls := "ShareStreams", name := "next", desc := "(I)I" } : Jvm.MethodName) prog_1_method_3_code (2 : Nat) (Option.some Jvm.ClassFile.FieldType.int)) ∈ lw_all := lw_g (lw_at lw_m4 12 rfl) rfl
theorem q798 : (Jvm.Cond.methodLink "ShareStreams" (131 : Nat) ({ cls := "ShareStreams$Bench", name := "share", desc := "(II)I" } : Jvm.MethodName)) ∈ lw_all := lw_g (lw_at lw_m4 35 rfl) rfl
theorem q807 : (Jvm.Cond.methodLink "ShareStreams" (134 : Nat) ({ cls := "ShareStreams$Bench", name := "exact", desc := "()[I" } : Jvm.MethodName)) ∈ lw_all := lw_g (lw_at lw_m4 44 rfl) rfl
theorem q826 : (Jvm.Cond.methodLink "ShareStreams" (138 : Nat) ({ cls := "ShareStreams$Bench", name := "error", desc := "(II)I" } : Jvm.MethodName)) ∈ lw_all := lw_g (lw_at lw_m4 63 rfl) rfl
theorem q835 : (Jvm.Cond.methodLink "ShareStreams" (141 : Nat) ({ cls := "ShareStreams$Bench", name := "depths", desc := "()[I" } : Jvm.MethodName)) ∈ lw_all := lw_g (lw_at lw_m4 72 rfl) rfl
theorem q840 : (Jvm.Cond.methodLink "ShareStreams" (144 : Nat) ({ cls := "ShareStreams$Bench", name := "origins", desc := "()[I" } : Jvm.MethodName)) ∈ lw_all := lw_g (lw_at lw_m4 77 rfl) rfl
theorem q846 : (Jvm.Cond.methodLink "ShareStreams" (147 : Nat) ({ cls := "java/lang/Integer", name := "bitCount", desc := "(I)I" } : Jvm.MethodName)) ∈ lw_all := lw_g (lw_at lw_m4 83 rfl) rfl
theorem q853 : (Jvm.Cond.instanceMethod ({ cls := "ShareStreams", name := "bit", desc := "(II)I" } : Jvm.MethodName)) ∈ lw_all := lw_g (lw_at lw_m4 90 rfl) rfl
theorem q854 : (Jvm.Cond.selects "ShareStreams" ({ cls := "ShareStreams", name := "bit", desc := "(II)I" } : Jvm.MethodName) ({ cls := "ShareStreams", name := "bit", desc := "(II)I" } : Jvm.MethodName)) ∈ lw_all := lw_g (lw_at lw_m4 91 rfl) rfl
theorem q855 : (Jvm.Cond.code ({ cls := "ShareStreams", name := "bit", desc := "(II)I" } : Jvm.MethodName) prog_1_method_22_code (3 : Nat) (Option.some Jvm.ClassFile.FieldType.int)) ∈ lw_all := lw_g (lw_at lw_m4 92 rfl) rfl
theorem q857 : (Jvm.Cond.instanceMethod ({ cls := "ShareStreams", name := "overlap", desc := "(II)I" } : Jvm.MethodName)) ∈ lw_all := lw_g (lw_at lw_m4 94 rfl) rfl
theorem q858 : (Jvm.Cond.selects "ShareStreams" ({ cls := "ShareStreams", name := "overlap", desc := "(II)I" } : Jvm.MethodName) ({ cls := "ShareStreams", name := "overlap", desc := "(II)I" } : Jvm.MethodName)) ∈ lw_all := lw_g (lw_at lw_m4 95 rfl) rfl
theorem q859 : (Jvm.Cond.code ({ cls := "ShareStreams", name := "overlap", desc := "(II)I" } : Jvm.MethodName) prog_1_method_23_code (3 : Nat) (Option.some Jvm.ClassFile.FieldType.int)) ∈ lw_all := lw_g (lw_at lw_m4 96 rfl) rfl
theorem q860 : (Jvm.Cond.methodLink "ShareStreams" (152 : Nat) ({ cls := "ShareStreams$Bench", name := "overlap", desc := "(II)J" } : Jvm.MethodName)) ∈ lw_all := lw_g (lw_at lw_m4 97 rfl) rfl
theorem q866 : (Jvm.Cond.constantLong "ShareStreams" (156 : Nat) (65536 : Int64)) ∈ lw_all := lw_g (lw_at lw_m4 103 rfl) rfl
theorem q868 : (Jvm.Cond.instanceMethod ({ cls := "ShareStreams", name := "errorAt", desc := "(II)I" } : Jvm.MethodName)) ∈ lw_all := lw_g (lw_at lw_m4 105 rfl) rfl
theorem q869 : (Jvm.Cond.selects "ShareStreams" ({ cls := "ShareStreams", name := "errorAt", desc := "(II)I" } : Jvm.MethodName) ({ cls := "ShareStreams", name := "errorAt", desc := "(II)I" } : Jvm.MethodName)) ∈ lw_all := lw_g (lw_at lw_m4 106 rfl) rfl
theorem q870 : (Jvm.Cond.code ({ cls := "ShareStreams", name := "errorAt", desc := "(II)I" } : Jvm.MethodName) prog_1_method_24_code (3 : Nat) (Option.some Jvm.ClassFile.FieldType.int)) ∈ lw_all := lw_g (lw_at lw_m4 107 rfl) rfl
theorem q872 : (Jvm.Cond.instanceMethod ({ cls := "ShareStreams", name := "settles", desc := "(II)I" } : Jvm.MethodName)) ∈ lw_all := lw_g (lw_at lw_m4 109 rfl) rfl
theorem q873 : (Jvm.Cond.selects "ShareStreams" ({ cls := "ShareStreams", name := "settles", desc := "(II)I" } : Jvm.MethodName) ({ cls := "ShareStreams", name := "settles", desc := "(II)I" } : Jvm.MethodName)) ∈ lw_all := lw_g (lw_at lw_m4 110 rfl) rfl
theorem q874 : (Jvm.Cond.code ({ cls := "ShareStreams", name := "settles", desc := "(II)I" } : Jvm.MethodName) prog_1_method_25_code (3 : Nat) (Option.some Jvm.ClassFile.FieldType.int)) ∈ lw_all := lw_g (lw_at lw_m4 111 rfl) rfl
theorem q875 : (Jvm.Cond.constant "ShareStreams" (158 : Nat) (65536 : Int32)) ∈ lw_all := lw_g (lw_at lw_m4 112 rfl) rfl
theorem q876 : (Jvm.Cond.methodLink "ShareStreams" (159 : Nat) ({ cls := "ShareStreams$Bench", name := "settles", desc := "(II)I" } : Jvm.MethodName)) ∈ lw_all := lw_g (lw_at lw_m4 113 rfl) rfl
theorem q882 : (Jvm.Cond.instanceMethod ({ cls := "ShareStreams", name := "bestSeed", desc := "(III)I" } : Jvm.MethodName)) ∈ lw_all := lw_g (lw_at lw_m4 119 rfl) rfl
theorem q883 : (Jvm.Cond.selects "ShareStreams" ({ cls := "ShareStreams", name := "bestSeed", desc := "(III)I" } : Jvm.MethodName) ({ cls := "ShareStreams", name := "bestSeed", desc := "(III)I" } : Jvm.MethodName)) ∈ lw_all := lw_g (lw_at lw_m4 120 rfl) rfl
theorem q884 : (Jvm.Cond.code ({ cls := "ShareStreams", name := "bestSeed", desc := "(III)I" } : Jvm.MethodName) prog_1_method_26_code (9 : Nat) (Option.some Jvm.ClassFile.FieldType.int)) ∈ lw_all := lw_g (lw_at lw_m4 121 rfl) rfl
theorem q885 : (Jvm.Cond.classLink "ShareStreams" (162 : Nat) "ShareStreams$Run") ∈ lw_all := lw_g (lw_at lw_m4 122 rfl) rfl
theorem q886 : (Jvm.Cond.methodLink "ShareStreams" (164 : Nat) ({ cls := "ShareStreams$Run", name := "<init>", desc := "(LShareStreams$Bench;)V" } : Jvm.MethodName)) ∈ lw_all := lw_g (lw_at lw_m4 123 rfl) rfl
theorem q887 : (Jvm.Cond.methodLink "ShareStreams" (165 : Nat) ({ cls := "ShareStreams$Bench", name := "errorWith", desc := "(LShareStreams$Run;III)I" } : Jvm.MethodName)) ∈ lw_all := lw_g (lw_at lw_m4 124 rfl) rfl
theorem q893 : (Jvm.Cond.instanceMethod ({ cls := "ShareStreams", name := "unlike", desc := "(I)I" } : Jvm.MethodName)) ∈ lw_all := lw_g (lw_at lw_m4 130 rfl) rfl
theorem q894 : (Jvm.Cond.selects "ShareStreams" ({ cls := "ShareStreams", name := "unlike", desc := "(I)I" } : Jvm.MethodName) ({ cls := "ShareStreams", name := "unlike", desc := "(I)I" } : Jvm.MethodName)) ∈ lw_all := lw_g (lw_at lw_m4 131 rfl) rfl
theorem q895 : (Jvm.Cond.code ({ cls := "ShareStreams", name := "unlike", desc := "(I)I" } : Jvm.MethodName) prog_1_method_27_code (2 : Nat) (Option.some Jvm.ClassFile.FieldType.int)) ∈ lw_all := lw_g (lw_at lw_m4 132 rfl) rfl
theorem q896 : (Jvm.Cond.methodLink "ShareStreams" (169 : Nat) ({ cls := "ShareStreams$Bench", name := "unlike", desc := "(I)I" } : Jvm.MethodName)) ∈ lw_all := lw_g (lw_at lw_m4 133 rfl) rfl
theorem q901 : (Jvm.Cond.instanceMethod ({ cls := "ShareStreams", name := "count", desc := "(I)I" } : Jvm.MethodName)) ∈ lw_all := lw_g (lw_at lw_m4 138 rfl) rfl
theorem q902 : (Jvm.Cond.selects "ShareStreams" ({ cls := "ShareStreams", name := "count", desc := "(I)I" } : Jvm.MethodName) ({ cls := "ShareStreams", name := "count", desc := "(I)I" } : Jvm.MethodName)) ∈ lw_all := lw_g (lw_at lw_m4 139 rfl) rfl
theorem q903 : (Jvm.Cond.code ({ cls := "ShareStreams", name := "count", desc := "(I)I" } : Jvm.MethodName) prog_1_method_30_code (2 : Nat) (Option.some Jvm.ClassFile.FieldType.int)) ∈ lw_all := lw_g (lw_at lw_m4 140 rfl) rfl
theorem q904 : (Jvm.Cond.methodLink "ShareStreams" (172 : Nat) ({ cls := "ShareStreams$Bench", name := "sources", desc := "()I" } : Jvm.MethodName)) ∈ lw_all := lw_g (lw_at lw_m4 141 rfl) rfl
theorem q908 : (Jvm.Cond.methodLink "ShareStreams" (175 : Nat) ({ cls := "ShareStreams$Bench", name := "errors", desc := "()[I" } : Jvm.MethodName)) ∈ lw_all := lw_g (lw_at lw_m4 145 rfl) rfl
theorem q914 : (Jvm.Cond.methodLink "ShareStreams" (178 : Nat) ({ cls := "ShareStreams", name := "sum", desc := "([I)I" } : Jvm.MethodName)) ∈ lw_all := lw_g (lw_at lw_m4 151 rfl) rfl
theorem q915 : (Jvm.Cond.static ({ cls := "ShareStreams", name := "sum", desc := "([I)I" } : Jvm.MethodName)) ∈ lw_all := lw_g (lw_at lw_m4 152 rfl) rfl
theorem q916 : (Jvm.Cond.code ({ cls := "ShareStreams", name := "sum", desc := "([I)I" } : Jvm.MethodName) prog_1_method_28_code (3 : Nat) (Option.some Jvm.ClassFile.FieldType.int)) ∈ lw_all := lw_g (lw_at lw_m4 153 rfl) rfl
theorem q917 : (Jvm.Cond.methodLink "ShareStreams" (182 : Nat) ({ cls := "ShareStreams", name := "greatest", desc := "([I)I" } : Jvm.MethodName)) ∈ lw_all := lw_g (lw_at lw_m4 154 rfl) rfl
theorem q918 : (Jvm.Cond.static ({ cls := "ShareStreams", name := "greatest", desc := "([I)I" } : Jvm.MethodName)) ∈ lw_all := lw_g (lw_at lw_m4 155 rfl) rfl
theorem q919 : (Jvm.Cond.code ({ cls := "ShareStreams", name := "greatest", desc := "([I)I" } : Jvm.MethodName) prog_1_method_29_code (3 : Nat) (Option.some Jvm.ClassFile.FieldType.int)) ∈ lw_all := lw_g (lw_at lw_m4 156 rfl) rfl
theorem q920 : (Jvm.Cond.methodLink "ShareStreams" (185 : Nat) ({ cls := "ShareStreams$Bench", name := "deepest", desc := "()I" } : Jvm.MethodName)) ∈ lw_all := lw_g (lw_at lw_m4 157 rfl) rfl
theorem q1235 : (Jvm.Cond.castable "ShareStreams" "java/lang/Object") ∈ lw_tbl := lw_at lw_m5 232 rfl
theorem in_X0 : ∀ w ∈ wsX00, w ∈ lw_all := lw_in wsX00 [154, 156, 158, 160] (by decide +kernel) (by decide +kernel)
/-! ShareStreams$Bench -/
set_option maxRecDepth 100000
def RX1 : String := "ShareStreams$Bench"
def TX1 : u_T := fun k => match k with
  | 0 => ("ShareStreams$Bench", "lines", "Ljava/util/List;", true)
  | _ => ("ShareStreams$Bench", "length", "I", false)
def tyX1 : Nat → FieldType := fun k => match k with
  | 0 => .object "java/util/List"
  | _ => .int
abbrev wsX10 : List Cond := u_ws RX1 TX1 2
theorem nmX1 : ∀ a, a < 2 → ∀ b, b < 2 → a ≠ b → (TX1 a).2.1 ≠ (TX1 b).2.1 := by decide +kernel
theorem tyX1_ok : ∀ k, k < 2 → parseFieldDescriptor (TX1 k).2.2.1 = some (tyX1 k) := by decide +kernel
abbrev cX1_init : ByteArray := prog_2_method_1_code
def yX1_init : MethodName := ⟨RX1, "<init>", "()V"⟩
def dkwX1_init_0 : List UInt8 := [42, 183, 0, 3, 42, 187, 0, 9, 89, 183, 0, 11, 181, 0, 12, 42, 17, 1, 0, 181, 0, 18, 177]
abbrev dktX1_init_0 : List UInt8 := dkwX1_init_0 ++ []
theorem dksX1_init_0 : cX1_init.data.toList.drop 0 = dktX1_init_0 := by decide +kernel
theorem dX1_init_0 : decode cX1_init 0 = .ok (.aload_n 0, 1) := dk_42 (dk_at dksX1_init_0 0 rfl rfl)
theorem dX1_init_1 : decode cX1_init 1 = .ok (.invokespecial 3, 3) := dk_183 0 3 (dk_at dksX1_init_0 1 rfl rfl)
theorem dX1_init_4 : decode cX1_init 4 = .ok (.aload_n 0, 1) := dk_42 (dk_at dksX1_init_0 4 rfl rfl)
theorem dX1_init_5 : decode cX1_init 5 = .ok (.new 9, 3) := dk_187 0 9 (dk_at dksX1_init_0 5 rfl rfl)
theorem dX1_init_8 : decode cX1_init 8 = .ok (.dup, 1) := dk_89 (dk_at dksX1_init_0 8 rfl rfl)
theorem dX1_init_9 : decode cX1_init 9 = .ok (.invokespecial 11, 3) := dk_183 0 11 (dk_at dksX1_init_0 9 rfl rfl)
theorem dX1_init_12 : decode cX1_init 12 = .ok (.putfield 12, 3) := dk_181 0 12 (dk_at dksX1_init_0 12 rfl rfl)
theorem dX1_init_15 : decode cX1_init 15 = .ok (.aload_n 0, 1) := dk_42 (dk_at dksX1_init_0 15 rfl rfl)
theorem dX1_init_16 : decode cX1_init 16 = .ok (.sipush 256, 3) := dk_17 1 0 (dk_at dksX1_init_0 16 rfl rfl)
theorem dX1_init_19 : decode cX1_init 19 = .ok (.putfield 18, 3) := dk_181 0 18 (dk_at dksX1_init_0 19 rfl rfl)
theorem dX1_init_22 : decode cX1_init 22 = .ok (.return_, 1) := dk_177 (dk_at dksX1_init_0 22 rfl rfl)
abbrev cX1_init_2 : ByteArray := prog_2_method_2_code
def yX1_init_2 : MethodName := ⟨RX1, "<init>", "(LShareStreams$Bench;)V"⟩
def dkwX1_init_2_3 : List UInt8 := [180, 0, 18, 181, 0, 18, 177]
abbrev dktX1_init_2_3 : List UInt8 := dkwX1_init_2_3 ++ []
def dkwX1_init_2_2 : List UInt8 := [185, 0, 28, 2, 0, 192, 0, 32, 185, 0, 34, 2, 0, 87, 132, 2, 1, 167, 255, 217, 42, 43]
abbrev dktX1_init_2_2 : List UInt8 := dkwX1_init_2_2 ++ dktX1_init_2_3
def dkwX1_init_2_1 : List UInt8 := [28, 43, 180, 0, 12, 185, 0, 22, 1, 0, 162, 0, 32, 42, 180, 0, 12, 43, 180, 0, 12, 28]
abbrev dktX1_init_2_1 : List UInt8 := dkwX1_init_2_1 ++ dktX1_init_2_2
def dkwX1_init_2_0 : List UInt8 := [42, 183, 0, 3, 42, 187, 0, 9, 89, 183, 0, 11, 181, 0, 12, 42, 17, 1, 0, 181, 0, 18, 3, 61]
abbrev dktX1_init_2_0 : List UInt8 := dkwX1_init_2_0 ++ dktX1_init_2_1
theorem dksX1_init_2_0 : cX1_init_2.data.toList.drop 0 = dktX1_init_2_0 := by decide +kernel
theorem dksX1_init_2_1 : cX1_init_2.data.toList.drop 24 = dktX1_init_2_1 := dk_seg dksX1_init_2_0 24 rfl rfl
theorem dksX1_init_2_2 : cX1_init_2.data.toList.drop 46 = dktX1_init_2_2 := dk_seg dksX1_init_2_1 22 rfl rfl
theorem dksX1_init_2_3 : cX1_init_2.data.toList.drop 68 = dktX1_init_2_3 := dk_seg dksX1_init_2_2 22 rfl rfl
theorem dX1_init_2_0 : decode cX1_init_2 0 = .ok (.aload_n 0, 1) := dk_42 (dk_at dksX1_init_2_0 0 rfl rfl)
theorem dX1_init_2_1 : decode cX1_init_2 1 = .ok (.invokespecial 3, 3) := dk_183 0 3 (dk_at dksX1_init_2_0 1 rfl rfl)
theorem dX1_init_2_4 : decode cX1_init_2 4 = .ok (.aload_n 0, 1) := dk_42 (dk_at dksX1_init_2_0 4 rfl rfl)
theorem dX1_init_2_5 : decode cX1_init_2 5 = .ok (.new 9, 3) := dk_187 0 9 (dk_at dksX1_init_2_0 5 rfl rfl)
theorem dX1_init_2_8 : decode cX1_init_2 8 = .ok (.dup, 1) := dk_89 (dk_at dksX1_init_2_0 8 rfl rfl)
theorem dX1_init_2_9 : decode cX1_init_2 9 = .ok (.invokespecial 11, 3) := dk_183 0 11 (dk_at dksX1_init_2_0 9 rfl rfl)
theorem dX1_init_2_12 : decode cX1_init_2 12 = .ok (.putfield 12, 3) := dk_181 0 12 (dk_at dksX1_init_2_0 12 rfl rfl)
theorem dX1_init_2_15 : decode cX1_init_2 15 = .ok (.aload_n 0, 1) := dk_42 (dk_at dksX1_init_2_0 15 rfl rfl)
theorem dX1_init_2_16 : decode cX1_init_2 16 = .ok (.sipush 256, 3) := dk_17 1 0 (dk_at dksX1_init_2_0 16 rfl rfl)
theorem dX1_init_2_19 : decode cX1_init_2 19 = .ok (.putfield 18, 3) := dk_181 0 18 (dk_at dksX1_init_2_0 19 rfl rfl)
theorem dX1_init_2_22 : decode cX1_init_2 22 = .ok (.iconst 0, 1) := dk_3 (dk_at dksX1_init_2_0 22 rfl rfl)
theorem dX1_init_2_23 : decode cX1_init_2 23 = .ok (.istore_n 2, 1) := dk_61 (dk_at dksX1_init_2_0 23 rfl rfl)
theorem dX1_init_2_24 : decode cX1_init_2 24 = .ok (.iload_n 2, 1) := dk_28 (dk_at dksX1_init_2_1 0 rfl rfl)
theorem dX1_init_2_25 : decode cX1_init_2 25 = .ok (.aload_n 1, 1) := dk_43 (dk_at dksX1_init_2_1 1 rfl rfl)
theorem dX1_init_2_26 : decode cX1_init_2 26 = .ok (.getfield 12, 3) := dk_180 0 12 (dk_at dksX1_init_2_1 2 rfl rfl)
theorem dX1_init_2_29 : decode cX1_init_2 29 = .ok (.invokeinterface 22 1, 5) := by decide +kernel
theorem dX1_init_2_34 : decode cX1_init_2 34 = .ok (.if_icmp .ge 32, 3) := dk_162 0 32 (dk_at dksX1_init_2_1 10 rfl rfl)
theorem dX1_init_2_37 : decode cX1_init_2 37 = .ok (.aload_n 0, 1) := dk_42 (dk_at dksX1_init_2_1 13 rfl rfl)
theorem dX1_init_2_38 : decode cX1_init_2 38 = .ok (.getfield 12, 3) := dk_180 0 12 (dk_at dksX1_init_2_1 14 rfl rfl)
theorem dX1_init_2_41 : decode cX1_init_2 41 = .ok (.aload_n 1, 1) := dk_43 (dk_at dksX1_init_2_1 17 rfl rfl)
theorem dX1_init_2_42 : decode cX1_init_2 42 = .ok (.getfield 12, 3) := dk_180 0 12 (dk_at dksX1_init_2_1 18 rfl rfl)
theorem dX1_init_2_45 : decode cX1_init_2 45 = .ok (.iload_n 2, 1) := dk_28 (dk_at dksX1_init_2_1 21 rfl rfl)
theorem dX1_init_2_46 : decode cX1_init_2 46 = .ok (.invokeinterface 28 2, 5) := by decide +kernel
theorem dX1_init_2_51 : decode cX1_init_2 51 = .ok (.checkcast 32, 3) := dk_192 0 32 (dk_at dksX1_init_2_2 5 rfl rfl)
theorem dX1_init_2_54 : decode cX1_init_2 54 = .ok (.invokeinterface 34 2, 5) := by decide +kernel
theorem dX1_init_2_59 : decode cX1_init_2 59 = .ok (.pop, 1) := dk_87 (dk_at dksX1_init_2_2 13 rfl rfl)
theorem dX1_init_2_60 : decode cX1_init_2 60 = .ok (.iinc 2 1, 3) := dk_132 2 1 (dk_at dksX1_init_2_2 14 rfl rfl)
theorem dX1_init_2_63 : decode cX1_init_2 63 = .ok (.goto (-39), 3) := dk_167 255 217 (dk_at dksX1_init_2_2 17 rfl rfl)
theorem dX1_init_2_66 : decode cX1_init_2 66 = .ok (.aload_n 0, 1) := dk_42 (dk_at dksX1_init_2_2 20 rfl rfl)
theorem dX1_init_2_67 : decode cX1_init_2 67 = .ok (.aload_n 1, 1) := dk_43 (dk_at dksX1_init_2_2 21 rfl rfl)
theorem dX1_init_2_68 : decode cX1_init_2 68 = .ok (.getfield 18, 3) := dk_180 0 18 (dk_at dksX1_init_2_3 0 rfl rfl)
theorem dX1_init_2_71 : decode cX1_init_2 71 = .ok (.putfield 18, 3) := dk_181 0 18 (dk_at dksX1_init_2_3 3 rfl rfl)
theorem dX1_init_2_74 : decode cX1_init_2 74 = .ok (.return_, 1) := dk_177 (dk_at dksX1_init_2_3 6 rfl rfl)
abbrev cX1_isLine : ByteArray := prog_2_method_3_code
def yX1_isLine : MethodName := ⟨RX1, "isLine", "(I)Z"⟩
def dkwX1_isLine_0 : List UInt8 := [27, 3, 42, 180, 0, 12, 185, 0, 22, 1, 0, 4, 100, 184, 0, 38, 172]
abbrev dktX1_isLine_0 : List UInt8 := dkwX1_isLine_0 ++ []
theorem dksX1_isLine_0 : cX1_isLine.data.toList.drop 0 = dktX1_isLine_0 := by decide +kernel
theorem dX1_isLine_0 : decode cX1_isLine 0 = .ok (.iload_n 1, 1) := dk_27 (dk_at dksX1_isLine_0 0 rfl rfl)
theorem dX1_isLine_1 : decode cX1_isLine 1 = .ok (.iconst 0, 1) := dk_3 (dk_at dksX1_isLine_0 1 rfl rfl)
theorem dX1_isLine_2 : decode cX1_isLine 2 = .ok (.aload_n 0, 1) := dk_42 (dk_at dksX1_isLine_0 2 rfl rfl)
theorem dX1_isLine_3 : decode cX1_isLine 3 = .ok (.getfield 12, 3) := dk_180 0 12 (dk_at dksX1_isLine_0 3 rfl rfl)
theorem dX1_isLine_6 : decode cX1_isLine 6 = .ok (.invokeinterface 22 1, 5) := by decide +kernel
theorem dX1_isLine_11 : decode cX1_isLine 11 = .ok (.iconst 1, 1) := dk_4 (dk_at dksX1_isLine_0 11 rfl rfl)
theorem dX1_isLine_12 : decode cX1_isLine 12 = .ok (.isub, 1) := dk_100 (dk_at dksX1_isLine_0 12 rfl rfl)
theorem dX1_isLine_13 : decode cX1_isLine 13 = .ok (.invokestatic 38, 3) := dk_184 0 38 (dk_at dksX1_isLine_0 13 rfl rfl)
theorem dX1_isLine_16 : decode cX1_isLine 16 = .ok (.ireturn, 1) := dk_172 (dk_at dksX1_isLine_0 16 rfl rfl)
abbrev cX1_countOf : ByteArray := prog_2_method_4_code
def yX1_countOf : MethodName := ⟨RX1, "countOf", "(II)I"⟩
def dkwX1_countOf_0 : List UInt8 := [187, 0, 42, 89, 42, 183, 0, 44, 27, 28, 182, 0, 47, 172]
abbrev dktX1_countOf_0 : List UInt8 := dkwX1_countOf_0 ++ []
theorem dksX1_countOf_0 : cX1_countOf.data.toList.drop 0 = dktX1_countOf_0 := by decide +kernel
theorem dX1_countOf_0 : decode cX1_countOf 0 = .ok (.new 42, 3) := dk_187 0 42 (dk_at dksX1_countOf_0 0 rfl rfl)
theorem dX1_countOf_3 : decode cX1_countOf 3 = .ok (.dup, 1) := dk_89 (dk_at dksX1_countOf_0 3 rfl rfl)
theorem dX1_countOf_4 : decode cX1_countOf 4 = .ok (.aload_n 0, 1) := dk_42 (dk_at dksX1_countOf_0 4 rfl rfl)
theorem dX1_countOf_5 : decode cX1_countOf 5 = .ok (.invokespecial 44, 3) := dk_183 0 44 (dk_at dksX1_countOf_0 5 rfl rfl)
theorem dX1_countOf_8 : decode cX1_countOf 8 = .ok (.iload_n 1, 1) := dk_27 (dk_at dksX1_countOf_0 8 rfl rfl)
theorem dX1_countOf_9 : decode cX1_countOf 9 = .ok (.iload_n 2, 1) := dk_28 (dk_at dksX1_countOf_0 9 rfl rfl)
theorem dX1_countOf_10 : decode cX1_countOf 10 = .ok (.invokevirtual 47, 3) := dk_182 0 47 (dk_at dksX1_countOf_0 10 rfl rfl)
theorem dX1_countOf_13 : decode cX1_countOf 13 = .ok (.ireturn, 1) := dk_172 (dk_at dksX1_countOf_0 13 rfl rfl)
abbrev cX1_share : ByteArray := prog_2_method_6_code
def yX1_share : MethodName := ⟨RX1, "share", "(II)I"⟩
def dkwX1_share_0 : List UInt8 := [42, 27, 28, 182, 0, 53, 28, 184, 0, 56, 172]
abbrev dktX1_share_0 : List UInt8 := dkwX1_share_0 ++ []
theorem dksX1_share_0 : cX1_share.data.toList.drop 0 = dktX1_share_0 := by decide +kernel
theorem dX1_share_0 : decode cX1_share 0 = .ok (.aload_n 0, 1) := dk_42 (dk_at dksX1_share_0 0 rfl rfl)
theorem dX1_share_1 : decode cX1_share 1 = .ok (.iload_n 1, 1) := dk_27 (dk_at dksX1_share_0 1 rfl rfl)
theorem dX1_share_2 : decode cX1_share 2 = .ok (.iload_n 2, 1) := dk_28 (dk_at dksX1_share_0 2 rfl rfl)
theorem dX1_share_3 : decode cX1_share 3 = .ok (.invokevirtual 53, 3) := dk_182 0 53 (dk_at dksX1_share_0 3 rfl rfl)
theorem dX1_share_6 : decode cX1_share 6 = .ok (.iload_n 2, 1) := dk_28 (dk_at dksX1_share_0 6 rfl rfl)
theorem dX1_share_7 : decode cX1_share 7 = .ok (.invokestatic 56, 3) := dk_184 0 56 (dk_at dksX1_share_0 7 rfl rfl)
theorem dX1_share_10 : decode cX1_share 10 = .ok (.ireturn, 1) := dk_172 (dk_at dksX1_share_0 10 rfl rfl)
abbrev cX1_shareOf : ByteArray := prog_2_method_5_code
def yX1_shareOf : MethodName := ⟨RX1, "shareOf", "(II)I"⟩
def dkwX1_shareOf_0 : List UInt8 := [26, 133, 20, 0, 51, 105, 27, 133, 109, 136, 172]
abbrev dktX1_shareOf_0 : List UInt8 := dkwX1_shareOf_0 ++ []
theorem dksX1_shareOf_0 : cX1_shareOf.data.toList.drop 0 = dktX1_shareOf_0 := by decide +kernel
theorem dX1_shareOf_0 : decode cX1_shareOf 0 = .ok (.iload_n 0, 1) := dk_26 (dk_at dksX1_shareOf_0 0 rfl rfl)
theorem dX1_shareOf_1 : decode cX1_shareOf 1 = .ok (.i2l, 1) := dk_133 (dk_at dksX1_shareOf_0 1 rfl rfl)
theorem dX1_shareOf_2 : decode cX1_shareOf 2 = .ok (.ldc2_w 51, 3) := dk_20 0 51 (dk_at dksX1_shareOf_0 2 rfl rfl)
theorem dX1_shareOf_5 : decode cX1_shareOf 5 = .ok (.lmul, 1) := dk_105 (dk_at dksX1_shareOf_0 5 rfl rfl)
theorem dX1_shareOf_6 : decode cX1_shareOf 6 = .ok (.iload_n 1, 1) := dk_27 (dk_at dksX1_shareOf_0 6 rfl rfl)
theorem dX1_shareOf_7 : decode cX1_shareOf 7 = .ok (.i2l, 1) := dk_133 (dk_at dksX1_shareOf_0 7 rfl rfl)
theorem dX1_shareOf_8 : decode cX1_shareOf 8 = .ok (.ldiv, 1) := dk_109 (dk_at dksX1_shareOf_0 8 rfl rfl)
theorem dX1_shareOf_9 : decode cX1_shareOf 9 = .ok (.l2i, 1) := dk_136 (dk_at dksX1_shareOf_0 9 rfl rfl)
theorem dX1_shareOf_10 : decode cX1_shareOf 10 = .ok (.ireturn, 1) := dk_172 (dk_at dksX1_shareOf_0 10 rfl rfl)
abbrev cX1_exact : ByteArray := prog_2_method_7_code
def yX1_exact : MethodName := ⟨RX1, "exact", "()[I"⟩
def dkwX1_exact_5 : List UInt8 := [167, 255, 145, 43, 176]
abbrev dktX1_exact_5 : List UInt8 := dkwX1_exact_5 ++ []
def dkwX1_exact_4 : List UInt8 := [45, 5, 185, 0, 63, 2, 0, 46, 133, 167, 0, 4, 9, 185, 0, 67, 7, 0, 79, 132, 2, 1]
abbrev dktX1_exact_4 : List UInt8 := dkwX1_exact_4 ++ dktX1_exact_5
def dkwX1_exact_3 : List UInt8 := [45, 4, 185, 0, 63, 2, 0, 46, 133, 167, 0, 4, 9, 45, 5, 185, 0, 59, 2, 0, 153, 0, 16, 43]
abbrev dktX1_exact_3 : List UInt8 := dkwX1_exact_3 ++ dktX1_exact_4
def dkwX1_exact_2 : List UInt8 := [45, 3, 185, 0, 63, 2, 0, 46, 133, 167, 0, 4, 9, 45, 4, 185, 0, 59, 2, 0, 153, 0, 16, 43]
abbrev dktX1_exact_2 : List UInt8 := dkwX1_exact_2 ++ dktX1_exact_3
def dkwX1_exact_1 : List UInt8 := [28, 185, 0, 28, 2, 0, 192, 0, 32, 78, 43, 28, 45, 45, 3, 185, 0, 59, 2, 0, 153, 0, 16, 43]
abbrev dktX1_exact_1 : List UInt8 := dkwX1_exact_1 ++ dktX1_exact_2
def dkwX1_exact_0 : List UInt8 := [16, 16, 188, 10, 76, 3, 61, 28, 42, 180, 0, 12, 185, 0, 22, 1, 0, 162, 0, 104, 42, 180, 0, 12]
abbrev dktX1_exact_0 : List UInt8 := dkwX1_exact_0 ++ dktX1_exact_1
theorem dksX1_exact_0 : cX1_exact.data.toList.drop 0 = dktX1_exact_0 := by decide +kernel
theorem dksX1_exact_1 : cX1_exact.data.toList.drop 24 = dktX1_exact_1 := dk_seg dksX1_exact_0 24 rfl rfl
theorem dksX1_exact_2 : cX1_exact.data.toList.drop 48 = dktX1_exact_2 := dk_seg dksX1_exact_1 24 rfl rfl
theorem dksX1_exact_3 : cX1_exact.data.toList.drop 72 = dktX1_exact_3 := dk_seg dksX1_exact_2 24 rfl rfl
theorem dksX1_exact_4 : cX1_exact.data.toList.drop 96 = dktX1_exact_4 := dk_seg dksX1_exact_3 24 rfl rfl
theorem dksX1_exact_5 : cX1_exact.data.toList.drop 118 = dktX1_exact_5 := dk_seg dksX1_exact_4 22 rfl rfl
theorem dX1_exact_0 : decode cX1_exact 0 = .ok (.bipush 16, 2) := dk_16 16 (dk_at dksX1_exact_0 0 rfl rfl)
theorem dX1_exact_2 : decode cX1_exact 2 = .ok (.newarray .int, 2) := dk_188_10 (dk_at dksX1_exact_0 2 rfl rfl)
theorem dX1_exact_4 : decode cX1_exact 4 = .ok (.astore_n 1, 1) := dk_76 (dk_at dksX1_exact_0 4 rfl rfl)
theorem dX1_exact_5 : decode cX1_exact 5 = .ok (.iconst 0, 1) := dk_3 (dk_at dksX1_exact_0 5 rfl rfl)
theorem dX1_exact_6 : decode cX1_exact 6 = .ok (.istore_n 2, 1) := dk_61 (dk_at dksX1_exact_0 6 rfl rfl)
theorem dX1_exact_7 : decode cX1_exact 7 = .ok (.iload_n 2, 1) := dk_28 (dk_at dksX1_exact_0 7 rfl rfl)
theorem dX1_exact_8 : decode cX1_exact 8 = .ok (.aload_n 0, 1) := dk_42 (dk_at dksX1_exact_0 8 rfl rfl)
theorem dX1_exact_9 : decode cX1_exact 9 = .ok (.getfield 12, 3) := dk_180 0 12 (dk_at dksX1_exact_0 9 rfl rfl)
theorem dX1_exact_12 : decode cX1_exact 12 = .ok (.invokeinterface 22 1, 5) := by decide +kernel
theorem dX1_exact_17 : decode cX1_exact 17 = .ok (.if_icmp .ge 104, 3) := dk_162 0 104 (dk_at dksX1_exact_0 17 rfl rfl)
theorem dX1_exact_20 : decode cX1_exact 20 = .ok (.aload_n 0, 1) := dk_42 (dk_at dksX1_exact_0 20 rfl rfl)
theorem dX1_exact_21 : decode cX1_exact 21 = .ok (.getfield 12, 3) := dk_180 0 12 (dk_at dksX1_exact_0 21 rfl rfl)
theorem dX1_exact_24 : decode cX1_exact 24 = .ok (.iload_n 2, 1) := dk_28 (dk_at dksX1_exact_1 0 rfl rfl)
theorem dX1_exact_25 : decode cX1_exact 25 = .ok (.invokeinterface 28 2, 5) := by decide +kernel
theorem dX1_exact_30 : decode cX1_exact 30 = .ok (.checkcast 32, 3) := dk_192 0 32 (dk_at dksX1_exact_1 6 rfl rfl)
theorem dX1_exact_33 : decode cX1_exact 33 = .ok (.astore_n 3, 1) := dk_78 (dk_at dksX1_exact_1 9 rfl rfl)
theorem dX1_exact_34 : decode cX1_exact 34 = .ok (.aload_n 1, 1) := dk_43 (dk_at dksX1_exact_1 10 rfl rfl)
theorem dX1_exact_35 : decode cX1_exact 35 = .ok (.iload_n 2, 1) := dk_28 (dk_at dksX1_exact_1 11 rfl rfl)
theorem dX1_exact_36 : decode cX1_exact 36 = .ok (.aload_n 3, 1) := dk_45 (dk_at dksX1_exact_1 12 rfl rfl)
theorem dX1_exact_37 : decode cX1_exact 37 = .ok (.aload_n 3, 1) := dk_45 (dk_at dksX1_exact_1 13 rfl rfl)
theorem dX1_exact_38 : decode cX1_exact 38 = .ok (.iconst 0, 1) := dk_3 (dk_at dksX1_exact_1 14 rfl rfl)
theorem dX1_exact_39 : decode cX1_exact 39 = .ok (.invokeinterface 59 2, 5) := by decide +kernel
theorem dX1_exact_44 : decode cX1_exact 44 = .ok (.ifCond .eq 16, 3) := dk_153 0 16 (dk_at dksX1_exact_1 20 rfl rfl)
theorem dX1_exact_47 : decode cX1_exact 47 = .ok (.aload_n 1, 1) := dk_43 (dk_at dksX1_exact_1 23 rfl rfl)
theorem dX1_exact_48 : decode cX1_exact 48 = .ok (.aload_n 3, 1) := dk_45 (dk_at dksX1_exact_2 0 rfl rfl)
theorem dX1_exact_49 : decode cX1_exact 49 = .ok (.iconst 0, 1) := dk_3 (dk_at dksX1_exact_2 1 rfl rfl)
theorem dX1_exact_50 : decode cX1_exact 50 = .ok (.invokeinterface 63 2, 5) := by decide +kernel
theorem dX1_exact_55 : decode cX1_exact 55 = .ok (.iaload, 1) := dk_46 (dk_at dksX1_exact_2 7 rfl rfl)
theorem dX1_exact_56 : decode cX1_exact 56 = .ok (.i2l, 1) := dk_133 (dk_at dksX1_exact_2 8 rfl rfl)
theorem dX1_exact_57 : decode cX1_exact 57 = .ok (.goto 4, 3) := dk_167 0 4 (dk_at dksX1_exact_2 9 rfl rfl)
theorem dX1_exact_60 : decode cX1_exact 60 = .ok (.lconst 0, 1) := dk_9 (dk_at dksX1_exact_2 12 rfl rfl)
theorem dX1_exact_61 : decode cX1_exact 61 = .ok (.aload_n 3, 1) := dk_45 (dk_at dksX1_exact_2 13 rfl rfl)
theorem dX1_exact_62 : decode cX1_exact 62 = .ok (.iconst 1, 1) := dk_4 (dk_at dksX1_exact_2 14 rfl rfl)
theorem dX1_exact_63 : decode cX1_exact 63 = .ok (.invokeinterface 59 2, 5) := by decide +kernel
theorem dX1_exact_68 : decode cX1_exact 68 = .ok (.ifCond .eq 16, 3) := dk_153 0 16 (dk_at dksX1_exact_2 20 rfl rfl)
theorem dX1_exact_71 : decode cX1_exact 71 = .ok (.aload_n 1, 1) := dk_43 (dk_at dksX1_exact_2 23 rfl rfl)
theorem dX1_exact_72 : decode cX1_exact 72 = .ok (.aload_n 3, 1) := dk_45 (dk_at dksX1_exact_3 0 rfl rfl)
theorem dX1_exact_73 : decode cX1_exact 73 = .ok (.iconst 1, 1) := dk_4 (dk_at dksX1_exact_3 1 rfl rfl)
theorem dX1_exact_74 : decode cX1_exact 74 = .ok (.invokeinterface 63 2, 5) := by decide +kernel
theorem dX1_exact_79 : decode cX1_exact 79 = .ok (.iaload, 1) := dk_46 (dk_at dksX1_exact_3 7 rfl rfl)
theorem dX1_exact_80 : decode cX1_exact 80 = .ok (.i2l, 1) := dk_133 (dk_at dksX1_exact_3 8 rfl rfl)
theorem dX1_exact_81 : decode cX1_exact 81 = .ok (.goto 4, 3) := dk_167 0 4 (dk_at dksX1_exact_3 9 rfl rfl)
theorem dX1_exact_84 : decode cX1_exact 84 = .ok (.lconst 0, 1) := dk_9 (dk_at dksX1_exact_3 12 rfl rfl)
theorem dX1_exact_85 : decode cX1_exact 85 = .ok (.aload_n 3, 1) := dk_45 (dk_at dksX1_exact_3 13 rfl rfl)
theorem dX1_exact_86 : decode cX1_exact 86 = .ok (.iconst 2, 1) := dk_5 (dk_at dksX1_exact_3 14 rfl rfl)
theorem dX1_exact_87 : decode cX1_exact 87 = .ok (.invokeinterface 59 2, 5) := by decide +kernel
theorem dX1_exact_92 : decode cX1_exact 92 = .ok (.ifCond .eq 16, 3) := dk_153 0 16 (dk_at dksX1_exact_3 20 rfl rfl)
theorem dX1_exact_95 : decode cX1_exact 95 = .ok (.aload_n 1, 1) := dk_43 (dk_at dksX1_exact_3 23 rfl rfl)
theorem dX1_exact_96 : decode cX1_exact 96 = .ok (.aload_n 3, 1) := dk_45 (dk_at dksX1_exact_4 0 rfl rfl)
theorem dX1_exact_97 : decode cX1_exact 97 = .ok (.iconst 2, 1) := dk_5 (dk_at dksX1_exact_4 1 rfl rfl)
theorem dX1_exact_98 : decode cX1_exact 98 = .ok (.invokeinterface 63 2, 5) := by decide +kernel
theorem dX1_exact_103 : decode cX1_exact 103 = .ok (.iaload, 1) := dk_46 (dk_at dksX1_exact_4 7 rfl rfl)
theorem dX1_exact_104 : decode cX1_exact 104 = .ok (.i2l, 1) := dk_133 (dk_at dksX1_exact_4 8 rfl rfl)
theorem dX1_exact_105 : decode cX1_exact 105 = .ok (.goto 4, 3) := dk_167 0 4 (dk_at dksX1_exact_4 9 rfl rfl)
theorem dX1_exact_108 : decode cX1_exact 108 = .ok (.lconst 0, 1) := dk_9 (dk_at dksX1_exact_4 12 rfl rfl)
theorem dX1_exact_109 : decode cX1_exact 109 = .ok (.invokeinterface 67 7, 5) := by decide +kernel
theorem dX1_exact_114 : decode cX1_exact 114 = .ok (.iastore, 1) := dk_79 (dk_at dksX1_exact_4 18 rfl rfl)
theorem dX1_exact_115 : decode cX1_exact 115 = .ok (.iinc 2 1, 3) := dk_132 2 1 (dk_at dksX1_exact_4 19 rfl rfl)
theorem dX1_exact_118 : decode cX1_exact 118 = .ok (.goto (-111), 3) := dk_167 255 145 (dk_at dksX1_exact_5 0 rfl rfl)
theorem dX1_exact_121 : decode cX1_exact 121 = .ok (.aload_n 1, 1) := dk_43 (dk_at dksX1_exact_5 3 rfl rfl)
theorem dX1_exact_122 : decode cX1_exact 122 = .ok (.areturn, 1) := dk_176 (dk_at dksX1_exact_5 4 rfl rfl)
abbrev cX1_error : ByteArray := prog_2_method_8_code
def yX1_error : MethodName := ⟨RX1, "error", "(II)I"⟩
def dkwX1_error_0 : List UInt8 := [42, 27, 28, 182, 0, 71, 42, 182, 0, 73, 27, 46, 100, 184, 0, 77, 172]
abbrev dktX1_error_0 : List UInt8 := dkwX1_error_0 ++ []
theorem dksX1_error_0 : cX1_error.data.toList.drop 0 = dktX1_error_0 := by decide +kernel
theorem dX1_error_0 : decode cX1_error 0 = .ok (.aload_n 0, 1) := dk_42 (dk_at dksX1_error_0 0 rfl rfl)
theorem dX1_error_1 : decode cX1_error 1 = .ok (.iload_n 1, 1) := dk_27 (dk_at dksX1_error_0 1 rfl rfl)
theorem dX1_error_2 : decode cX1_error 2 = .ok (.iload_n 2, 1) := dk_28 (dk_at dksX1_error_0 2 rfl rfl)
theorem dX1_error_3 : decode cX1_error 3 = .ok (.invokevirtual 71, 3) := dk_182 0 71 (dk_at dksX1_error_0 3 rfl rfl)
theorem dX1_error_6 : decode cX1_error 6 = .ok (.aload_n 0, 1) := dk_42 (dk_at dksX1_error_0 6 rfl rfl)
theorem dX1_error_7 : decode cX1_error 7 = .ok (.invokevirtual 73, 3) := dk_182 0 73 (dk_at dksX1_error_0 7 rfl rfl)
theorem dX1_error_10 : decode cX1_error 10 = .ok (.iload_n 1, 1) := dk_27 (dk_at dksX1_error_0 10 rfl rfl)
theorem dX1_error_11 : decode cX1_error 11 = .ok (.iaload, 1) := dk_46 (dk_at dksX1_error_0 11 rfl rfl)
theorem dX1_error_12 : decode cX1_error 12 = .ok (.isub, 1) := dk_100 (dk_at dksX1_error_0 12 rfl rfl)
theorem dX1_error_13 : decode cX1_error 13 = .ok (.invokestatic 77, 3) := dk_184 0 77 (dk_at dksX1_error_0 13 rfl rfl)
theorem dX1_error_16 : decode cX1_error 16 = .ok (.ireturn, 1) := dk_172 (dk_at dksX1_error_0 16 rfl rfl)
abbrev cX1_depths : ByteArray := prog_2_method_10_code
def yX1_depths : MethodName := ⟨RX1, "depths", "()[I"⟩
def dkwX1_depths_3 : List UInt8 := [96, 184, 0, 92, 79, 132, 4, 1, 167, 255, 215, 132, 2, 1, 167, 255, 179, 43, 176]
abbrev dktX1_depths_3 : List UInt8 := dkwX1_depths_3 ++ []
def dkwX1_depths_2 : List UInt8 := [185, 0, 59, 2, 0, 153, 0, 24, 43, 28, 43, 28, 46, 4, 43, 45, 21, 4, 185, 0, 63, 2, 0, 46]
abbrev dktX1_depths_2 : List UInt8 := dkwX1_depths_2 ++ dktX1_depths_3
def dkwX1_depths_1 : List UInt8 := [28, 185, 0, 28, 2, 0, 192, 0, 32, 78, 3, 54, 4, 21, 4, 6, 162, 0, 41, 45, 21, 4]
abbrev dktX1_depths_1 : List UInt8 := dkwX1_depths_1 ++ dktX1_depths_2
def dkwX1_depths_0 : List UInt8 := [16, 16, 188, 10, 76, 3, 61, 28, 42, 180, 0, 12, 185, 0, 22, 1, 0, 162, 0, 70, 42, 180, 0, 12]
abbrev dktX1_depths_0 : List UInt8 := dkwX1_depths_0 ++ dktX1_depths_1
theorem dksX1_depths_0 : cX1_depths.data.toList.drop 0 = dktX1_depths_0 := by decide +kernel
theorem dksX1_depths_1 : cX1_depths.data.toList.drop 24 = dktX1_depths_1 := dk_seg dksX1_depths_0 24 rfl rfl
theorem dksX1_depths_2 : cX1_depths.data.toList.drop 46 = dktX1_depths_2 := dk_seg dksX1_depths_1 22 rfl rfl
theorem dksX1_depths_3 : cX1_depths.data.toList.drop 70 = dktX1_depths_3 := dk_seg dksX1_depths_2 24 rfl rfl
theorem dX1_depths_0 : decode cX1_depths 0 = .ok (.bipush 16, 2) := dk_16 16 (dk_at dksX1_depths_0 0 rfl rfl)
theorem dX1_depths_2 : decode cX1_depths 2 = .ok (.newarray .int, 2) := dk_188_10 (dk_at dksX1_depths_0 2 rfl rfl)
theorem dX1_depths_4 : decode cX1_depths 4 = .ok (.astore_n 1, 1) := dk_76 (dk_at dksX1_depths_0 4 rfl rfl)
theorem dX1_depths_5 : decode cX1_depths 5 = .ok (.iconst 0, 1) := dk_3 (dk_at dksX1_depths_0 5 rfl rfl)
theorem dX1_depths_6 : decode cX1_depths 6 = .ok (.istore_n 2, 1) := dk_61 (dk_at dksX1_depths_0 6 rfl rfl)
theorem dX1_depths_7 : decode cX1_depths 7 = .ok (.iload_n 2, 1) := dk_28 (dk_at dksX1_depths_0 7 rfl rfl)
theorem dX1_depths_8 : decode cX1_depths 8 = .ok (.aload_n 0, 1) := dk_42 (dk_at dksX1_depths_0 8 rfl rfl)
theorem dX1_depths_9 : decode cX1_depths 9 = .ok (.getfield 12, 3) := dk_180 0 12 (dk_at dksX1_depths_0 9 rfl rfl)
theorem dX1_depths_12 : decode cX1_depths 12 = .ok (.invokeinterface 22 1, 5) := by decide +kernel
theorem dX1_depths_17 : decode cX1_depths 17 = .ok (.if_icmp .ge 70, 3) := dk_162 0 70 (dk_at dksX1_depths_0 17 rfl rfl)
theorem dX1_depths_20 : decode cX1_depths 20 = .ok (.aload_n 0, 1) := dk_42 (dk_at dksX1_depths_0 20 rfl rfl)
theorem dX1_depths_21 : decode cX1_depths 21 = .ok (.getfield 12, 3) := dk_180 0 12 (dk_at dksX1_depths_0 21 rfl rfl)
theorem dX1_depths_24 : decode cX1_depths 24 = .ok (.iload_n 2, 1) := dk_28 (dk_at dksX1_depths_1 0 rfl rfl)
theorem dX1_depths_25 : decode cX1_depths 25 = .ok (.invokeinterface 28 2, 5) := by decide +kernel
theorem dX1_depths_30 : decode cX1_depths 30 = .ok (.checkcast 32, 3) := dk_192 0 32 (dk_at dksX1_depths_1 6 rfl rfl)
theorem dX1_depths_33 : decode cX1_depths 33 = .ok (.astore_n 3, 1) := dk_78 (dk_at dksX1_depths_1 9 rfl rfl)
theorem dX1_depths_34 : decode cX1_depths 34 = .ok (.iconst 0, 1) := dk_3 (dk_at dksX1_depths_1 10 rfl rfl)
theorem dX1_depths_35 : decode cX1_depths 35 = .ok (.istore 4, 2) := dk_54 4 (dk_at dksX1_depths_1 11 rfl rfl)
theorem dX1_depths_37 : decode cX1_depths 37 = .ok (.iload 4, 2) := dk_21 4 (dk_at dksX1_depths_1 13 rfl rfl)
theorem dX1_depths_39 : decode cX1_depths 39 = .ok (.iconst 3, 1) := dk_6 (dk_at dksX1_depths_1 15 rfl rfl)
theorem dX1_depths_40 : decode cX1_depths 40 = .ok (.if_icmp .ge 41, 3) := dk_162 0 41 (dk_at dksX1_depths_1 16 rfl rfl)
theorem dX1_depths_43 : decode cX1_depths 43 = .ok (.aload_n 3, 1) := dk_45 (dk_at dksX1_depths_1 19 rfl rfl)
theorem dX1_depths_44 : decode cX1_depths 44 = .ok (.iload 4, 2) := dk_21 4 (dk_at dksX1_depths_1 20 rfl rfl)
theorem dX1_depths_46 : decode cX1_depths 46 = .ok (.invokeinterface 59 2, 5) := by decide +kernel
theorem dX1_depths_51 : decode cX1_depths 51 = .ok (.ifCond .eq 24, 3) := dk_153 0 24 (dk_at dksX1_depths_2 5 rfl rfl)
theorem dX1_depths_54 : decode cX1_depths 54 = .ok (.aload_n 1, 1) := dk_43 (dk_at dksX1_depths_2 8 rfl rfl)
theorem dX1_depths_55 : decode cX1_depths 55 = .ok (.iload_n 2, 1) := dk_28 (dk_at dksX1_depths_2 9 rfl rfl)
theorem dX1_depths_56 : decode cX1_depths 56 = .ok (.aload_n 1, 1) := dk_43 (dk_at dksX1_depths_2 10 rfl rfl)
theorem dX1_depths_57 : decode cX1_depths 57 = .ok (.iload_n 2, 1) := dk_28 (dk_at dksX1_depths_2 11 rfl rfl)
theorem dX1_depths_58 : decode cX1_depths 58 = .ok (.iaload, 1) := dk_46 (dk_at dksX1_depths_2 12 rfl rfl)
theorem dX1_depths_59 : decode cX1_depths 59 = .ok (.iconst 1, 1) := dk_4 (dk_at dksX1_depths_2 13 rfl rfl)
theorem dX1_depths_60 : decode cX1_depths 60 = .ok (.aload_n 1, 1) := dk_43 (dk_at dksX1_depths_2 14 rfl rfl)
theorem dX1_depths_61 : decode cX1_depths 61 = .ok (.aload_n 3, 1) := dk_45 (dk_at dksX1_depths_2 15 rfl rfl)
theorem dX1_depths_62 : decode cX1_depths 62 = .ok (.iload 4, 2) := dk_21 4 (dk_at dksX1_depths_2 16 rfl rfl)
theorem dX1_depths_64 : decode cX1_depths 64 = .ok (.invokeinterface 63 2, 5) := by decide +kernel
theorem dX1_depths_69 : decode cX1_depths 69 = .ok (.iaload, 1) := dk_46 (dk_at dksX1_depths_2 23 rfl rfl)
theorem dX1_depths_70 : decode cX1_depths 70 = .ok (.iadd, 1) := dk_96 (dk_at dksX1_depths_3 0 rfl rfl)
theorem dX1_depths_71 : decode cX1_depths 71 = .ok (.invokestatic 92, 3) := dk_184 0 92 (dk_at dksX1_depths_3 1 rfl rfl)
theorem dX1_depths_74 : decode cX1_depths 74 = .ok (.iastore, 1) := dk_79 (dk_at dksX1_depths_3 4 rfl rfl)
theorem dX1_depths_75 : decode cX1_depths 75 = .ok (.iinc 4 1, 3) := dk_132 4 1 (dk_at dksX1_depths_3 5 rfl rfl)
theorem dX1_depths_78 : decode cX1_depths 78 = .ok (.goto (-41), 3) := dk_167 255 215 (dk_at dksX1_depths_3 8 rfl rfl)
theorem dX1_depths_81 : decode cX1_depths 81 = .ok (.iinc 2 1, 3) := dk_132 2 1 (dk_at dksX1_depths_3 11 rfl rfl)
theorem dX1_depths_84 : decode cX1_depths 84 = .ok (.goto (-77), 3) := dk_167 255 179 (dk_at dksX1_depths_3 14 rfl rfl)
theorem dX1_depths_87 : decode cX1_depths 87 = .ok (.aload_n 1, 1) := dk_43 (dk_at dksX1_depths_3 17 rfl rfl)
theorem dX1_depths_88 : decode cX1_depths 88 = .ok (.areturn, 1) := dk_176 (dk_at dksX1_depths_3 18 rfl rfl)
abbrev cX1_origins : ByteArray := prog_2_method_11_code
def yX1_origins : MethodName := ⟨RX1, "origins", "()[I"⟩
def dkwX1_origins_4 : List UInt8 := [167, 255, 220, 132, 2, 1, 167, 255, 165, 43, 176]
abbrev dktX1_origins_4 : List UInt8 := dkwX1_origins_4 ++ []
def dkwX1_origins_3 : List UInt8 := [153, 0, 19, 43, 28, 92, 46, 43, 45, 21, 4, 185, 0, 63, 2, 0, 46, 128, 79, 132, 4, 1]
abbrev dktX1_origins_3 : List UInt8 := dkwX1_origins_3 ++ dktX1_origins_4
def dkwX1_origins_2 : List UInt8 := [167, 0, 4, 3, 79, 3, 54, 4, 21, 4, 6, 162, 0, 36, 45, 21, 4, 185, 0, 59, 2, 0]
abbrev dktX1_origins_2 : List UInt8 := dkwX1_origins_2 ++ dktX1_origins_3
def dkwX1_origins_1 : List UInt8 := [28, 185, 0, 28, 2, 0, 192, 0, 32, 78, 43, 28, 45, 185, 0, 95, 1, 0, 154, 0, 9, 4, 28, 120]
abbrev dktX1_origins_1 : List UInt8 := dkwX1_origins_1 ++ dktX1_origins_2
def dkwX1_origins_0 : List UInt8 := [16, 16, 188, 10, 76, 3, 61, 28, 42, 180, 0, 12, 185, 0, 22, 1, 0, 162, 0, 84, 42, 180, 0, 12]
abbrev dktX1_origins_0 : List UInt8 := dkwX1_origins_0 ++ dktX1_origins_1
theorem dksX1_origins_0 : cX1_origins.data.toList.drop 0 = dktX1_origins_0 := by decide +kernel
theorem dksX1_origins_1 : cX1_origins.data.toList.drop 24 = dktX1_origins_1 := dk_seg dksX1_origins_0 24 rfl rfl
theorem dksX1_origins_2 : cX1_origins.data.toList.drop 48 = dktX1_origins_2 := dk_seg dksX1_origins_1 24 rfl rfl
theorem dksX1_origins_3 : cX1_origins.data.toList.drop 70 = dktX1_origins_3 := dk_seg dksX1_origins_2 22 rfl rfl
theorem dksX1_origins_4 : cX1_origins.data.toList.drop 92 = dktX1_origins_4 := dk_seg dksX1_origins_3 22 rfl rfl
theorem dX1_origins_0 : decode cX1_origins 0 = .ok (.bipush 16, 2) := dk_16 16 (dk_at dksX1_origins_0 0 rfl rfl)
theorem dX1_origins_2 : decode cX1_origins 2 = .ok (.newarray .int, 2) := dk_188_10 (dk_at dksX1_origins_0 2 rfl rfl)
theorem dX1_origins_4 : decode cX1_origins 4 = .ok (.astore_n 1, 1) := dk_76 (dk_at dksX1_origins_0 4 rfl rfl)
theorem dX1_origins_5 : decode cX1_origins 5 = .ok (.iconst 0, 1) := dk_3 (dk_at dksX1_origins_0 5 rfl rfl)
theorem dX1_origins_6 : decode cX1_origins 6 = .ok (.istore_n 2, 1) := dk_61 (dk_at dksX1_origins_0 6 rfl rfl)
theorem dX1_origins_7 : decode cX1_origins 7 = .ok (.iload_n 2, 1) := dk_28 (dk_at dksX1_origins_0 7 rfl rfl)
theorem dX1_origins_8 : decode cX1_origins 8 = .ok (.aload_n 0, 1) := dk_42 (dk_at dksX1_origins_0 8 rfl rfl)
theorem dX1_origins_9 : decode cX1_origins 9 = .ok (.getfield 12, 3) := dk_180 0 12 (dk_at dksX1_origins_0 9 rfl rfl)
theorem dX1_origins_12 : decode cX1_origins 12 = .ok (.invokeinterface 22 1, 5) := by decide +kernel
theorem dX1_origins_17 : decode cX1_origins 17 = .ok (.if_icmp .ge 84, 3) := dk_162 0 84 (dk_at dksX1_origins_0 17 rfl rfl)
theorem dX1_origins_20 : decode cX1_origins 20 = .ok (.aload_n 0, 1) := dk_42 (dk_at dksX1_origins_0 20 rfl rfl)
theorem dX1_origins_21 : decode cX1_origins 21 = .ok (.getfield 12, 3) := dk_180 0 12 (dk_at dksX1_origins_0 21 rfl rfl)
theorem dX1_origins_24 : decode cX1_origins 24 = .ok (.iload_n 2, 1) := dk_28 (dk_at dksX1_origins_1 0 rfl rfl)
theorem dX1_origins_25 : decode cX1_origins 25 = .ok (.invokeinterface 28 2, 5) := by decide +kernel
theorem dX1_origins_30 : decode cX1_origins 30 = .ok (.checkcast 32, 3) := dk_192 0 32 (dk_at dksX1_origins_1 6 rfl rfl)
theorem dX1_origins_33 : decode cX1_origins 33 = .ok (.astore_n 3, 1) := dk_78 (dk_at dksX1_origins_1 9 rfl rfl)
theorem dX1_origins_34 : decode cX1_origins 34 = .ok (.aload_n 1, 1) := dk_43 (dk_at dksX1_origins_1 10 rfl rfl)
theorem dX1_origins_35 : decode cX1_origins 35 = .ok (.iload_n 2, 1) := dk_28 (dk_at dksX1_origins_1 11 rfl rfl)
theorem dX1_origins_36 : decode cX1_origins 36 = .ok (.aload_n 3, 1) := dk_45 (dk_at dksX1_origins_1 12 rfl rfl)
theorem dX1_origins_37 : decode cX1_origins 37 = .ok (.invokeinterface 95 1, 5) := by decide +kernel
theorem dX1_origins_42 : decode cX1_origins 42 = .ok (.ifCond .ne 9, 3) := dk_154 0 9 (dk_at dksX1_origins_1 18 rfl rfl)
theorem dX1_origins_45 : decode cX1_origins 45 = .ok (.iconst 1, 1) := dk_4 (dk_at dksX1_origins_1 21 rfl rfl)
theorem dX1_origins_46 : decode cX1_origins 46 = .ok (.iload_n 2, 1) := dk_28 (dk_at dksX1_origins_1 22 rfl rfl)
theorem dX1_origins_47 : decode cX1_origins 47 = .ok (.ishl, 1) := dk_120 (dk_at dksX1_origins_1 23 rfl rfl)
theorem dX1_origins_48 : decode cX1_origins 48 = .ok (.goto 4, 3) := dk_167 0 4 (dk_at dksX1_origins_2 0 rfl rfl)
theorem dX1_origins_51 : decode cX1_origins 51 = .ok (.iconst 0, 1) := dk_3 (dk_at dksX1_origins_2 3 rfl rfl)
theorem dX1_origins_52 : decode cX1_origins 52 = .ok (.iastore, 1) := dk_79 (dk_at dksX1_origins_2 4 rfl rfl)
theorem dX1_origins_53 : decode cX1_origins 53 = .ok (.iconst 0, 1) := dk_3 (dk_at dksX1_origins_2 5 rfl rfl)
theorem dX1_origins_54 : decode cX1_origins 54 = .ok (.istore 4, 2) := dk_54 4 (dk_at dksX1_origins_2 6 rfl rfl)
theorem dX1_origins_56 : decode cX1_origins 56 = .ok (.iload 4, 2) := dk_21 4 (dk_at dksX1_origins_2 8 rfl rfl)
theorem dX1_origins_58 : decode cX1_origins 58 = .ok (.iconst 3, 1) := dk_6 (dk_at dksX1_origins_2 10 rfl rfl)
theorem dX1_origins_59 : decode cX1_origins 59 = .ok (.if_icmp .ge 36, 3) := dk_162 0 36 (dk_at dksX1_origins_2 11 rfl rfl)
theorem dX1_origins_62 : decode cX1_origins 62 = .ok (.aload_n 3, 1) := dk_45 (dk_at dksX1_origins_2 14 rfl rfl)
theorem dX1_origins_63 : decode cX1_origins 63 = .ok (.iload 4, 2) := dk_21 4 (dk_at dksX1_origins_2 15 rfl rfl)
theorem dX1_origins_65 : decode cX1_origins 65 = .ok (.invokeinterface 59 2, 5) := by decide +kernel
theorem dX1_origins_70 : decode cX1_origins 70 = .ok (.ifCond .eq 19, 3) := dk_153 0 19 (dk_at dksX1_origins_3 0 rfl rfl)
theorem dX1_origins_73 : decode cX1_origins 73 = .ok (.aload_n 1, 1) := dk_43 (dk_at dksX1_origins_3 3 rfl rfl)
theorem dX1_origins_74 : decode cX1_origins 74 = .ok (.iload_n 2, 1) := dk_28 (dk_at dksX1_origins_3 4 rfl rfl)
theorem dX1_origins_75 : decode cX1_origins 75 = .ok (.dup2, 1) := dk_92 (dk_at dksX1_origins_3 5 rfl rfl)
theorem dX1_origins_76 : decode cX1_origins 76 = .ok (.iaload, 1) := dk_46 (dk_at dksX1_origins_3 6 rfl rfl)
theorem dX1_origins_77 : decode cX1_origins 77 = .ok (.aload_n 1, 1) := dk_43 (dk_at dksX1_origins_3 7 rfl rfl)
theorem dX1_origins_78 : decode cX1_origins 78 = .ok (.aload_n 3, 1) := dk_45 (dk_at dksX1_origins_3 8 rfl rfl)
theorem dX1_origins_79 : decode cX1_origins 79 = .ok (.iload 4, 2) := dk_21 4 (dk_at dksX1_origins_3 9 rfl rfl)
theorem dX1_origins_81 : decode cX1_origins 81 = .ok (.invokeinterface 63 2, 5) := by decide +kernel
theorem dX1_origins_86 : decode cX1_origins 86 = .ok (.iaload, 1) := dk_46 (dk_at dksX1_origins_3 16 rfl rfl)
theorem dX1_origins_87 : decode cX1_origins 87 = .ok (.ior, 1) := dk_128 (dk_at dksX1_origins_3 17 rfl rfl)
theorem dX1_origins_88 : decode cX1_origins 88 = .ok (.iastore, 1) := dk_79 (dk_at dksX1_origins_3 18 rfl rfl)
theorem dX1_origins_89 : decode cX1_origins 89 = .ok (.iinc 4 1, 3) := dk_132 4 1 (dk_at dksX1_origins_3 19 rfl rfl)
theorem dX1_origins_92 : decode cX1_origins 92 = .ok (.goto (-36), 3) := dk_167 255 220 (dk_at dksX1_origins_4 0 rfl rfl)
theorem dX1_origins_95 : decode cX1_origins 95 = .ok (.iinc 2 1, 3) := dk_132 2 1 (dk_at dksX1_origins_4 3 rfl rfl)
theorem dX1_origins_98 : decode cX1_origins 98 = .ok (.goto (-91), 3) := dk_167 255 165 (dk_at dksX1_origins_4 6 rfl rfl)
theorem dX1_origins_101 : decode cX1_origins 101 = .ok (.aload_n 1, 1) := dk_43 (dk_at dksX1_origins_4 9 rfl rfl)
theorem dX1_origins_102 : decode cX1_origins 102 = .ok (.areturn, 1) := dk_176 (dk_at dksX1_origins_4 10 rfl rfl)
abbrev cX1_overlap : ByteArray := prog_2_method_15_code
def yX1_overlap : MethodName := ⟨RX1, "overlap", "(II)J"⟩
def dkwX1_overlap_3 : List UInt8 := [55, 8, 132, 10, 1, 167, 255, 201, 22, 4, 42, 180, 0, 18, 133, 105, 22, 6, 22, 8, 105, 101, 173]
abbrev dktX1_overlap_3 : List UInt8 := dkwX1_overlap_3 ++ []
def dkwX1_overlap_2 : List UInt8 := [97, 55, 4, 22, 6, 45, 27, 182, 0, 89, 133, 97, 55, 6, 22, 8, 45, 28, 182, 0, 89, 133, 97]
abbrev dktX1_overlap_2 : List UInt8 := dkwX1_overlap_2 ++ dktX1_overlap_3
def dkwX1_overlap_1 : List UInt8 := [180, 0, 18, 162, 0, 52, 45, 182, 0, 86, 22, 4, 45, 27, 182, 0, 89, 45, 28, 182, 0, 89, 126, 133]
abbrev dktX1_overlap_1 : List UInt8 := dkwX1_overlap_1 ++ dktX1_overlap_2
def dkwX1_overlap_0 : List UInt8 := [187, 0, 42, 89, 42, 183, 0, 44, 78, 9, 55, 4, 9, 55, 6, 9, 55, 8, 3, 54, 10, 21, 10, 42]
abbrev dktX1_overlap_0 : List UInt8 := dkwX1_overlap_0 ++ dktX1_overlap_1
theorem dksX1_overlap_0 : cX1_overlap.data.toList.drop 0 = dktX1_overlap_0 := by decide +kernel
theorem dksX1_overlap_1 : cX1_overlap.data.toList.drop 24 = dktX1_overlap_1 := dk_seg dksX1_overlap_0 24 rfl rfl
theorem dksX1_overlap_2 : cX1_overlap.data.toList.drop 48 = dktX1_overlap_2 := dk_seg dksX1_overlap_1 24 rfl rfl
theorem dksX1_overlap_3 : cX1_overlap.data.toList.drop 71 = dktX1_overlap_3 := dk_seg dksX1_overlap_2 23 rfl rfl
theorem dX1_overlap_0 : decode cX1_overlap 0 = .ok (.new 42, 3) := dk_187 0 42 (dk_at dksX1_overlap_0 0 rfl rfl)
theorem dX1_overlap_3 : decode cX1_overlap 3 = .ok (.dup, 1) := dk_89 (dk_at dksX1_overlap_0 3 rfl rfl)
theorem dX1_overlap_4 : decode cX1_overlap 4 = .ok (.aload_n 0, 1) := dk_42 (dk_at dksX1_overlap_0 4 rfl rfl)
theorem dX1_overlap_5 : decode cX1_overlap 5 = .ok (.invokespecial 44, 3) := dk_183 0 44 (dk_at dksX1_overlap_0 5 rfl rfl)
theorem dX1_overlap_8 : decode cX1_overlap 8 = .ok (.astore_n 3, 1) := dk_78 (dk_at dksX1_overlap_0 8 rfl rfl)
theorem dX1_overlap_9 : decode cX1_overlap 9 = .ok (.lconst 0, 1) := dk_9 (dk_at dksX1_overlap_0 9 rfl rfl)
theorem dX1_overlap_10 : decode cX1_overlap 10 = .ok (.lstore 4, 2) := dk_55 4 (dk_at dksX1_overlap_0 10 rfl rfl)
theorem dX1_overlap_12 : decode cX1_overlap 12 = .ok (.lconst 0, 1) := dk_9 (dk_at dksX1_overlap_0 12 rfl rfl)
theorem dX1_overlap_13 : decode cX1_overlap 13 = .ok (.lstore 6, 2) := dk_55 6 (dk_at dksX1_overlap_0 13 rfl rfl)
theorem dX1_overlap_15 : decode cX1_overlap 15 = .ok (.lconst 0, 1) := dk_9 (dk_at dksX1_overlap_0 15 rfl rfl)
theorem dX1_overlap_16 : decode cX1_overlap 16 = .ok (.lstore 8, 2) := dk_55 8 (dk_at dksX1_overlap_0 16 rfl rfl)
theorem dX1_overlap_18 : decode cX1_overlap 18 = .ok (.iconst 0, 1) := dk_3 (dk_at dksX1_overlap_0 18 rfl rfl)
theorem dX1_overlap_19 : decode cX1_overlap 19 = .ok (.istore 10, 2) := dk_54 10 (dk_at dksX1_overlap_0 19 rfl rfl)
theorem dX1_overlap_21 : decode cX1_overlap 21 = .ok (.iload 10, 2) := dk_21 10 (dk_at dksX1_overlap_0 21 rfl rfl)
theorem dX1_overlap_23 : decode cX1_overlap 23 = .ok (.aload_n 0, 1) := dk_42 (dk_at dksX1_overlap_0 23 rfl rfl)
theorem dX1_overlap_24 : decode cX1_overlap 24 = .ok (.getfield 18, 3) := dk_180 0 18 (dk_at dksX1_overlap_1 0 rfl rfl)
theorem dX1_overlap_27 : decode cX1_overlap 27 = .ok (.if_icmp .ge 52, 3) := dk_162 0 52 (dk_at dksX1_overlap_1 3 rfl rfl)
theorem dX1_overlap_30 : decode cX1_overlap 30 = .ok (.aload_n 3, 1) := dk_45 (dk_at dksX1_overlap_1 6 rfl rfl)
theorem dX1_overlap_31 : decode cX1_overlap 31 = .ok (.invokevirtual 86, 3) := dk_182 0 86 (dk_at dksX1_overlap_1 7 rfl rfl)
theorem dX1_overlap_34 : decode cX1_overlap 34 = .ok (.lload 4, 2) := dk_22 4 (dk_at dksX1_overlap_1 10 rfl rfl)
theorem dX1_overlap_36 : decode cX1_overlap 36 = .ok (.aload_n 3, 1) := dk_45 (dk_at dksX1_overlap_1 12 rfl rfl)
theorem dX1_overlap_37 : decode cX1_overlap 37 = .ok (.iload_n 1, 1) := dk_27 (dk_at dksX1_overlap_1 13 rfl rfl)
theorem dX1_overlap_38 : decode cX1_overlap 38 = .ok (.invokevirtual 89, 3) := dk_182 0 89 (dk_at dksX1_overlap_1 14 rfl rfl)
theorem dX1_overlap_41 : decode cX1_overlap 41 = .ok (.aload_n 3, 1) := dk_45 (dk_at dksX1_overlap_1 17 rfl rfl)
theorem dX1_overlap_42 : decode cX1_overlap 42 = .ok (.iload_n 2, 1) := dk_28 (dk_at dksX1_overlap_1 18 rfl rfl)
theorem dX1_overlap_43 : decode cX1_overlap 43 = .ok (.invokevirtual 89, 3) := dk_182 0 89 (dk_at dksX1_overlap_1 19 rfl rfl)
theorem dX1_overlap_46 : decode cX1_overlap 46 = .ok (.iand, 1) := dk_126 (dk_at dksX1_overlap_1 22 rfl rfl)
theorem dX1_overlap_47 : decode cX1_overlap 47 = .ok (.i2l, 1) := dk_133 (dk_at dksX1_overlap_1 23 rfl rfl)
theorem dX1_overlap_48 : decode cX1_overlap 48 = .ok (.ladd, 1) := dk_97 (dk_at dksX1_overlap_2 0 rfl rfl)
theorem dX1_overlap_49 : decode cX1_overlap 49 = .ok (.lstore 4, 2) := dk_55 4 (dk_at dksX1_overlap_2 1 rfl rfl)
theorem dX1_overlap_51 : decode cX1_overlap 51 = .ok (.lload 6, 2) := dk_22 6 (dk_at dksX1_overlap_2 3 rfl rfl)
theorem dX1_overlap_53 : decode cX1_overlap 53 = .ok (.aload_n 3, 1) := dk_45 (dk_at dksX1_overlap_2 5 rfl rfl)
theorem dX1_overlap_54 : decode cX1_overlap 54 = .ok (.iload_n 1, 1) := dk_27 (dk_at dksX1_overlap_2 6 rfl rfl)
theorem dX1_overlap_55 : decode cX1_overlap 55 = .ok (.invokevirtual 89, 3) := dk_182 0 89 (dk_at dksX1_overlap_2 7 rfl rfl)
theorem dX1_overlap_58 : decode cX1_overlap 58 = .ok (.i2l, 1) := dk_133 (dk_at dksX1_overlap_2 10 rfl rfl)
theorem dX1_overlap_59 : decode cX1_overlap 59 = .ok (.ladd, 1) := dk_97 (dk_at dksX1_overlap_2 11 rfl rfl)
theorem dX1_overlap_60 : decode cX1_overlap 60 = .ok (.lstore 6, 2) := dk_55 6 (dk_at dksX1_overlap_2 12 rfl rfl)
theorem dX1_overlap_62 : decode cX1_overlap 62 = .ok (.lload 8, 2) := dk_22 8 (dk_at dksX1_overlap_2 14 rfl rfl)
theorem dX1_overlap_64 : decode cX1_overlap 64 = .ok (.aload_n 3, 1) := dk_45 (dk_at dksX1_overlap_2 16 rfl rfl)
theorem dX1_overlap_65 : decode cX1_overlap 65 = .ok (.iload_n 2, 1) := dk_28 (dk_at dksX1_overlap_2 17 rfl rfl)
theorem dX1_overlap_66 : decode cX1_overlap 66 = .ok (.invokevirtual 89, 3) := dk_182 0 89 (dk_at dksX1_overlap_2 18 rfl rfl)
theorem dX1_overlap_69 : decode cX1_overlap 69 = .ok (.i2l, 1) := dk_133 (dk_at dksX1_overlap_2 21 rfl rfl)
theorem dX1_overlap_70 : decode cX1_overlap 70 = .ok (.ladd, 1) := dk_97 (dk_at dksX1_overlap_2 22 rfl rfl)
theorem dX1_overlap_71 : decode cX1_overlap 71 = .ok (.lstore 8, 2) := dk_55 8 (dk_at dksX1_overlap_3 0 rfl rfl)
theorem dX1_overlap_73 : decode cX1_overlap 73 = .ok (.iinc 10 1, 3) := dk_132 10 1 (dk_at dksX1_overlap_3 2 rfl rfl)
theorem dX1_overlap_76 : decode cX1_overlap 76 = .ok (.goto (-55), 3) := dk_167 255 201 (dk_at dksX1_overlap_3 5 rfl rfl)
theorem dX1_overlap_79 : decode cX1_overlap 79 = .ok (.lload 4, 2) := dk_22 4 (dk_at dksX1_overlap_3 8 rfl rfl)
theorem dX1_overlap_81 : decode cX1_overlap 81 = .ok (.aload_n 0, 1) := dk_42 (dk_at dksX1_overlap_3 10 rfl rfl)
theorem dX1_overlap_82 : decode cX1_overlap 82 = .ok (.getfield 18, 3) := dk_180 0 18 (dk_at dksX1_overlap_3 11 rfl rfl)
theorem dX1_overlap_85 : decode cX1_overlap 85 = .ok (.i2l, 1) := dk_133 (dk_at dksX1_overlap_3 14 rfl rfl)
theorem dX1_overlap_86 : decode cX1_overlap 86 = .ok (.lmul, 1) := dk_105 (dk_at dksX1_overlap_3 15 rfl rfl)
theorem dX1_overlap_87 : decode cX1_overlap 87 = .ok (.lload 6, 2) := dk_22 6 (dk_at dksX1_overlap_3 16 rfl rfl)
theorem dX1_overlap_89 : decode cX1_overlap 89 = .ok (.lload 8, 2) := dk_22 8 (dk_at dksX1_overlap_3 18 rfl rfl)
theorem dX1_overlap_91 : decode cX1_overlap 91 = .ok (.lmul, 1) := dk_105 (dk_at dksX1_overlap_3 20 rfl rfl)
theorem dX1_overlap_92 : decode cX1_overlap 92 = .ok (.lsub, 1) := dk_101 (dk_at dksX1_overlap_3 21 rfl rfl)
theorem dX1_overlap_93 : decode cX1_overlap 93 = .ok (.lreturn, 1) := dk_173 (dk_at dksX1_overlap_3 22 rfl rfl)
abbrev cX1_settles : ByteArray := prog_2_method_14_code
def yX1_settles : MethodName := ⟨RX1, "settles", "(II)I"⟩
def dkwX1_settles_3 : List UInt8 := [132, 7, 1, 167, 255, 207, 21, 6, 17, 3, 232, 164, 0, 8, 18, 101, 167, 0, 5, 21, 6, 172]
abbrev dktX1_settles_3 : List UInt8 := dkwX1_settles_3 ++ []
def dkwX1_settles_2 : List UInt8 := [54, 5, 21, 5, 21, 7, 184, 0, 56, 29, 100, 184, 0, 77, 28, 164, 0, 9, 21, 7, 4, 96, 54, 6]
abbrev dktX1_settles_2 : List UInt8 := dkwX1_settles_2 ++ dktX1_settles_3
def dkwX1_settles_1 : List UInt8 := [54, 7, 21, 7, 17, 3, 232, 163, 0, 47, 25, 4, 182, 0, 86, 21, 5, 25, 4, 27, 182, 0, 89, 96]
abbrev dktX1_settles_1 : List UInt8 := dkwX1_settles_1 ++ dktX1_settles_2
def dkwX1_settles_0 : List UInt8 := [42, 182, 0, 73, 27, 46, 62, 187, 0, 42, 89, 42, 183, 0, 44, 58, 4, 3, 54, 5, 4, 54, 6, 4]
abbrev dktX1_settles_0 : List UInt8 := dkwX1_settles_0 ++ dktX1_settles_1
theorem dksX1_settles_0 : cX1_settles.data.toList.drop 0 = dktX1_settles_0 := by decide +kernel
theorem dksX1_settles_1 : cX1_settles.data.toList.drop 24 = dktX1_settles_1 := dk_seg dksX1_settles_0 24 rfl rfl
theorem dksX1_settles_2 : cX1_settles.data.toList.drop 48 = dktX1_settles_2 := dk_seg dksX1_settles_1 24 rfl rfl
theorem dksX1_settles_3 : cX1_settles.data.toList.drop 72 = dktX1_settles_3 := dk_seg dksX1_settles_2 24 rfl rfl
theorem dX1_settles_0 : decode cX1_settles 0 = .ok (.aload_n 0, 1) := dk_42 (dk_at dksX1_settles_0 0 rfl rfl)
theorem dX1_settles_1 : decode cX1_settles 1 = .ok (.invokevirtual 73, 3) := dk_182 0 73 (dk_at dksX1_settles_0 1 rfl rfl)
theorem dX1_settles_4 : decode cX1_settles 4 = .ok (.iload_n 1, 1) := dk_27 (dk_at dksX1_settles_0 4 rfl rfl)
theorem dX1_settles_5 : decode cX1_settles 5 = .ok (.iaload, 1) := dk_46 (dk_at dksX1_settles_0 5 rfl rfl)
theorem dX1_settles_6 : decode cX1_settles 6 = .ok (.istore_n 3, 1) := dk_62 (dk_at dksX1_settles_0 6 rfl rfl)
theorem dX1_settles_7 : decode cX1_settles 7 = .ok (.new 42, 3) := dk_187 0 42 (dk_at dksX1_settles_0 7 rfl rfl)
theorem dX1_settles_10 : decode cX1_settles 10 = .ok (.dup, 1) := dk_89 (dk_at dksX1_settles_0 10 rfl rfl)
theorem dX1_settles_11 : decode cX1_settles 11 = .ok (.aload_n 0, 1) := dk_42 (dk_at dksX1_settles_0 11 rfl rfl)
theorem dX1_settles_12 : decode cX1_settles 12 = .ok (.invokespecial 44, 3) := dk_183 0 44 (dk_at dksX1_settles_0 12 rfl rfl)
theorem dX1_settles_15 : decode cX1_settles 15 = .ok (.astore 4, 2) := dk_58 4 (dk_at dksX1_settles_0 15 rfl rfl)
theorem dX1_settles_17 : decode cX1_settles 17 = .ok (.iconst 0, 1) := dk_3 (dk_at dksX1_settles_0 17 rfl rfl)
theorem dX1_settles_18 : decode cX1_settles 18 = .ok (.istore 5, 2) := dk_54 5 (dk_at dksX1_settles_0 18 rfl rfl)
theorem dX1_settles_20 : decode cX1_settles 20 = .ok (.iconst 1, 1) := dk_4 (dk_at dksX1_settles_0 20 rfl rfl)
theorem dX1_settles_21 : decode cX1_settles 21 = .ok (.istore 6, 2) := dk_54 6 (dk_at dksX1_settles_0 21 rfl rfl)
theorem dX1_settles_23 : decode cX1_settles 23 = .ok (.iconst 1, 1) := dk_4 (dk_at dksX1_settles_0 23 rfl rfl)
theorem dX1_settles_24 : decode cX1_settles 24 = .ok (.istore 7, 2) := dk_54 7 (dk_at dksX1_settles_1 0 rfl rfl)
theorem dX1_settles_26 : decode cX1_settles 26 = .ok (.iload 7, 2) := dk_21 7 (dk_at dksX1_settles_1 2 rfl rfl)
theorem dX1_settles_28 : decode cX1_settles 28 = .ok (.sipush 1000, 3) := dk_17 3 232 (dk_at dksX1_settles_1 4 rfl rfl)
theorem dX1_settles_31 : decode cX1_settles 31 = .ok (.if_icmp .gt 47, 3) := dk_163 0 47 (dk_at dksX1_settles_1 7 rfl rfl)
theorem dX1_settles_34 : decode cX1_settles 34 = .ok (.aload 4, 2) := dk_25 4 (dk_at dksX1_settles_1 10 rfl rfl)
theorem dX1_settles_36 : decode cX1_settles 36 = .ok (.invokevirtual 86, 3) := dk_182 0 86 (dk_at dksX1_settles_1 12 rfl rfl)
theorem dX1_settles_39 : decode cX1_settles 39 = .ok (.iload 5, 2) := dk_21 5 (dk_at dksX1_settles_1 15 rfl rfl)
theorem dX1_settles_41 : decode cX1_settles 41 = .ok (.aload 4, 2) := dk_25 4 (dk_at dksX1_settles_1 17 rfl rfl)
theorem dX1_settles_43 : decode cX1_settles 43 = .ok (.iload_n 1, 1) := dk_27 (dk_at dksX1_settles_1 19 rfl rfl)
theorem dX1_settles_44 : decode cX1_settles 44 = .ok (.invokevirtual 89, 3) := dk_182 0 89 (dk_at dksX1_settles_1 20 rfl rfl)
theorem dX1_settles_47 : decode cX1_settles 47 = .ok (.iadd, 1) := dk_96 (dk_at dksX1_settles_1 23 rfl rfl)
theorem dX1_settles_48 : decode cX1_settles 48 = .ok (.istore 5, 2) := dk_54 5 (dk_at dksX1_settles_2 0 rfl rfl)
theorem dX1_settles_50 : decode cX1_settles 50 = .ok (.iload 5, 2) := dk_21 5 (dk_at dksX1_settles_2 2 rfl rfl)
theorem dX1_settles_52 : decode cX1_settles 52 = .ok (.iload 7, 2) := dk_21 7 (dk_at dksX1_settles_2 4 rfl rfl)
theorem dX1_settles_54 : decode cX1_settles 54 = .ok (.invokestatic 56, 3) := dk_184 0 56 (dk_at dksX1_settles_2 6 rfl rfl)
theorem dX1_settles_57 : decode cX1_settles 57 = .ok (.iload_n 3, 1) := dk_29 (dk_at dksX1_settles_2 9 rfl rfl)
theorem dX1_settles_58 : decode cX1_settles 58 = .ok (.isub, 1) := dk_100 (dk_at dksX1_settles_2 10 rfl rfl)
theorem dX1_settles_59 : decode cX1_settles 59 = .ok (.invokestatic 77, 3) := dk_184 0 77 (dk_at dksX1_settles_2 11 rfl rfl)
theorem dX1_settles_62 : decode cX1_settles 62 = .ok (.iload_n 2, 1) := dk_28 (dk_at dksX1_settles_2 14 rfl rfl)
theorem dX1_settles_63 : decode cX1_settles 63 = .ok (.if_icmp .le 9, 3) := dk_164 0 9 (dk_at dksX1_settles_2 15 rfl rfl)
theorem dX1_settles_66 : decode cX1_settles 66 = .ok (.iload 7, 2) := dk_21 7 (dk_at dksX1_settles_2 18 rfl rfl)
theorem dX1_settles_68 : decode cX1_settles 68 = .ok (.iconst 1, 1) := dk_4 (dk_at dksX1_settles_2 20 rfl rfl)
theorem dX1_settles_69 : decode cX1_settles 69 = .ok (.iadd, 1) := dk_96 (dk_at dksX1_settles_2 21 rfl rfl)
theorem dX1_settles_70 : decode cX1_settles 70 = .ok (.istore 6, 2) := dk_54 6 (dk_at dksX1_settles_2 22 rfl rfl)
theorem dX1_settles_72 : decode cX1_settles 72 = .ok (.iinc 7 1, 3) := dk_132 7 1 (dk_at dksX1_settles_3 0 rfl rfl)
theorem dX1_settles_75 : decode cX1_settles 75 = .ok (.goto (-49), 3) := dk_167 255 207 (dk_at dksX1_settles_3 3 rfl rfl)
theorem dX1_settles_78 : decode cX1_settles 78 = .ok (.iload 6, 2) := dk_21 6 (dk_at dksX1_settles_3 6 rfl rfl)
theorem dX1_settles_80 : decode cX1_settles 80 = .ok (.sipush 1000, 3) := dk_17 3 232 (dk_at dksX1_settles_3 8 rfl rfl)
theorem dX1_settles_83 : decode cX1_settles 83 = .ok (.if_icmp .le 8, 3) := dk_164 0 8 (dk_at dksX1_settles_3 11 rfl rfl)
theorem dX1_settles_86 : decode cX1_settles 86 = .ok (.ldc 101, 2) := dk_18 101 (dk_at dksX1_settles_3 14 rfl rfl)
theorem dX1_settles_88 : decode cX1_settles 88 = .ok (.goto 5, 3) := dk_167 0 5 (dk_at dksX1_settles_3 16 rfl rfl)
theorem dX1_settles_91 : decode cX1_settles 91 = .ok (.iload 6, 2) := dk_21 6 (dk_at dksX1_settles_3 19 rfl rfl)
theorem dX1_settles_93 : decode cX1_settles 93 = .ok (.ireturn, 1) := dk_172 (dk_at dksX1_settles_3 21 rfl rfl)
abbrev cX1_errorWith : ByteArray := prog_2_method_17_code
def yX1_errorWith : MethodName := ⟨RX1, "errorWith", "(LShareStreams$Run;III)I"⟩
def dkwX1_errorWith_1 : List UInt8 := [180, 0, 18, 184, 0, 56, 42, 182, 0, 73, 21, 4, 46, 100, 184, 0, 77, 172]
abbrev dktX1_errorWith_1 : List UInt8 := dkwX1_errorWith_1 ++ []
def dkwX1_errorWith_0 : List UInt8 := [43, 182, 0, 102, 43, 180, 0, 105, 28, 29, 79, 43, 21, 4, 42, 180, 0, 18, 182, 0, 47, 42]
abbrev dktX1_errorWith_0 : List UInt8 := dkwX1_errorWith_0 ++ dktX1_errorWith_1
theorem dksX1_errorWith_0 : cX1_errorWith.data.toList.drop 0 = dktX1_errorWith_0 := by decide +kernel
theorem dksX1_errorWith_1 : cX1_errorWith.data.toList.drop 22 = dktX1_errorWith_1 := dk_seg dksX1_errorWith_0 22 rfl rfl
theorem dX1_errorWith_0 : decode cX1_errorWith 0 = .ok (.aload_n 1, 1) := dk_43 (dk_at dksX1_errorWith_0 0 rfl rfl)
theorem dX1_errorWith_1 : decode cX1_errorWith 1 = .ok (.invokevirtual 102, 3) := dk_182 0 102 (dk_at dksX1_errorWith_0 1 rfl rfl)
theorem dX1_errorWith_4 : decode cX1_errorWith 4 = .ok (.aload_n 1, 1) := dk_43 (dk_at dksX1_errorWith_0 4 rfl rfl)
theorem dX1_errorWith_5 : decode cX1_errorWith 5 = .ok (.getfield 105, 3) := dk_180 0 105 (dk_at dksX1_errorWith_0 5 rfl rfl)
theorem dX1_errorWith_8 : decode cX1_errorWith 8 = .ok (.iload_n 2, 1) := dk_28 (dk_at dksX1_errorWith_0 8 rfl rfl)
theorem dX1_errorWith_9 : decode cX1_errorWith 9 = .ok (.iload_n 3, 1) := dk_29 (dk_at dksX1_errorWith_0 9 rfl rfl)
theorem dX1_errorWith_10 : decode cX1_errorWith 10 = .ok (.iastore, 1) := dk_79 (dk_at dksX1_errorWith_0 10 rfl rfl)
theorem dX1_errorWith_11 : decode cX1_errorWith 11 = .ok (.aload_n 1, 1) := dk_43 (dk_at dksX1_errorWith_0 11 rfl rfl)
theorem dX1_errorWith_12 : decode cX1_errorWith 12 = .ok (.iload 4, 2) := dk_21 4 (dk_at dksX1_errorWith_0 12 rfl rfl)
theorem dX1_errorWith_14 : decode cX1_errorWith 14 = .ok (.aload_n 0, 1) := dk_42 (dk_at dksX1_errorWith_0 14 rfl rfl)
theorem dX1_errorWith_15 : decode cX1_errorWith 15 = .ok (.getfield 18, 3) := dk_180 0 18 (dk_at dksX1_errorWith_0 15 rfl rfl)
theorem dX1_errorWith_18 : decode cX1_errorWith 18 = .ok (.invokevirtual 47, 3) := dk_182 0 47 (dk_at dksX1_errorWith_0 18 rfl rfl)
theorem dX1_errorWith_21 : decode cX1_errorWith 21 = .ok (.aload_n 0, 1) := dk_42 (dk_at dksX1_errorWith_0 21 rfl rfl)
theorem dX1_errorWith_22 : decode cX1_errorWith 22 = .ok (.getfield 18, 3) := dk_180 0 18 (dk_at dksX1_errorWith_1 0 rfl rfl)
theorem dX1_errorWith_25 : decode cX1_errorWith 25 = .ok (.invokestatic 56, 3) := dk_184 0 56 (dk_at dksX1_errorWith_1 3 rfl rfl)
theorem dX1_errorWith_28 : decode cX1_errorWith 28 = .ok (.aload_n 0, 1) := dk_42 (dk_at dksX1_errorWith_1 6 rfl rfl)
theorem dX1_errorWith_29 : decode cX1_errorWith 29 = .ok (.invokevirtual 73, 3) := dk_182 0 73 (dk_at dksX1_errorWith_1 7 rfl rfl)
theorem dX1_errorWith_32 : decode cX1_errorWith 32 = .ok (.iload 4, 2) := dk_21 4 (dk_at dksX1_errorWith_1 10 rfl rfl)
theorem dX1_errorWith_34 : decode cX1_errorWith 34 = .ok (.iaload, 1) := dk_46 (dk_at dksX1_errorWith_1 12 rfl rfl)
theorem dX1_errorWith_35 : decode cX1_errorWith 35 = .ok (.isub, 1) := dk_100 (dk_at dksX1_errorWith_1 13 rfl rfl)
theorem dX1_errorWith_36 : decode cX1_errorWith 36 = .ok (.invokestatic 77, 3) := dk_184 0 77 (dk_at dksX1_errorWith_1 14 rfl rfl)
theorem dX1_errorWith_39 : decode cX1_errorWith 39 = .ok (.ireturn, 1) := dk_172 (dk_at dksX1_errorWith_1 17 rfl rfl)
abbrev cX1_unlike : ByteArray := prog_2_method_16_code
def yX1_unlike : MethodName := ⟨RX1, "unlike", "(I)I"⟩
def dkwX1_unlike_4 : List UInt8 := [167, 255, 183, 21, 4, 172]
abbrev dktX1_unlike_4 : List UInt8 := dkwX1_unlike_4 ++ []
def dkwX1_unlike_3 : List UInt8 := [17, 0, 255, 100, 51, 44, 27, 182, 0, 89, 159, 0, 7, 4, 167, 0, 4, 3, 96, 54, 4, 132, 5, 1]
abbrev dktX1_unlike_3 : List UInt8 := dkwX1_unlike_3 ++ dktX1_unlike_4
def dkwX1_unlike_2 : List UInt8 := [182, 0, 89, 145, 84, 167, 0, 40, 21, 4, 21, 5, 17, 0, 255, 100, 16, 60, 161, 0, 23, 45, 21, 5]
abbrev dktX1_unlike_2 : List UInt8 := dkwX1_unlike_2 ++ dktX1_unlike_3
def dkwX1_unlike_1 : List UInt8 := [17, 1, 254, 162, 0, 71, 44, 182, 0, 86, 21, 5, 17, 0, 255, 162, 0, 16, 45, 21, 5, 44, 27]
abbrev dktX1_unlike_1 : List UInt8 := dkwX1_unlike_1 ++ dktX1_unlike_2
def dkwX1_unlike_0 : List UInt8 := [187, 0, 42, 89, 42, 183, 0, 44, 77, 17, 0, 255, 188, 8, 78, 3, 54, 4, 3, 54, 5, 21, 5]
abbrev dktX1_unlike_0 : List UInt8 := dkwX1_unlike_0 ++ dktX1_unlike_1
theorem dksX1_unlike_0 : cX1_unlike.data.toList.drop 0 = dktX1_unlike_0 := by decide +kernel
theorem dksX1_unlike_1 : cX1_unlike.data.toList.drop 23 = dktX1_unlike_1 := dk_seg dksX1_unlike_0 23 rfl rfl
theorem dksX1_unlike_2 : cX1_unlike.data.toList.drop 46 = dktX1_unlike_2 := dk_seg dksX1_unlike_1 23 rfl rfl
theorem dksX1_unlike_3 : cX1_unlike.data.toList.drop 70 = dktX1_unlike_3 := dk_seg dksX1_unlike_2 24 rfl rfl
theorem dksX1_unlike_4 : cX1_unlike.data.toList.drop 94 = dktX1_unlike_4 := dk_seg dksX1_unlike_3 24 rfl rfl
theorem dX1_unlike_0 : decode cX1_unlike 0 = .ok (.new 42, 3) := dk_187 0 42 (dk_at dksX1_unlike_0 0 rfl rfl)
theorem dX1_unlike_3 : decode cX1_unlike 3 = .ok (.dup, 1) := dk_89 (dk_at dksX1_unlike_0 3 rfl rfl)
theorem dX1_unlike_4 : decode cX1_unlike 4 = .ok (.aload_n 0, 1) := dk_42 (dk_at dksX1_unlike_0 4 rfl rfl)
theorem dX1_unlike_5 : decode cX1_unlike 5 = .ok (.invokespecial 44, 3) := dk_183 0 44 (dk_at dksX1_unlike_0 5 rfl rfl)
theorem dX1_unlike_8 : decode cX1_unlike 8 = .ok (.astore_n 2, 1) := dk_77 (dk_at dksX1_unlike_0 8 rfl rfl)
theorem dX1_unlike_9 : decode cX1_unlike 9 = .ok (.sipush 255, 3) := dk_17 0 255 (dk_at dksX1_unlike_0 9 rfl rfl)
theorem dX1_unlike_12 : decode cX1_unlike 12 = .ok (.newarray .byte, 2) := dk_188_8 (dk_at dksX1_unlike_0 12 rfl rfl)
theorem dX1_unlike_14 : decode cX1_unlike 14 = .ok (.astore_n 3, 1) := dk_78 (dk_at dksX1_unlike_0 14 rfl rfl)
theorem dX1_unlike_15 : decode cX1_unlike 15 = .ok (.iconst 0, 1) := dk_3 (dk_at dksX1_unlike_0 15 rfl rfl)
theorem dX1_unlike_16 : decode cX1_unlike 16 = .ok (.istore 4, 2) := dk_54 4 (dk_at dksX1_unlike_0 16 rfl rfl)
theorem dX1_unlike_18 : decode cX1_unlike 18 = .ok (.iconst 0, 1) := dk_3 (dk_at dksX1_unlike_0 18 rfl rfl)
theorem dX1_unlike_19 : decode cX1_unlike 19 = .ok (.istore 5, 2) := dk_54 5 (dk_at dksX1_unlike_0 19 rfl rfl)
theorem dX1_unlike_21 : decode cX1_unlike 21 = .ok (.iload 5, 2) := dk_21 5 (dk_at dksX1_unlike_0 21 rfl rfl)
theorem dX1_unlike_23 : decode cX1_unlike 23 = .ok (.sipush 510, 3) := dk_17 1 254 (dk_at dksX1_unlike_1 0 rfl rfl)
theorem dX1_unlike_26 : decode cX1_unlike 26 = .ok (.if_icmp .ge 71, 3) := dk_162 0 71 (dk_at dksX1_unlike_1 3 rfl rfl)
theorem dX1_unlike_29 : decode cX1_unlike 29 = .ok (.aload_n 2, 1) := dk_44 (dk_at dksX1_unlike_1 6 rfl rfl)
theorem dX1_unlike_30 : decode cX1_unlike 30 = .ok (.invokevirtual 86, 3) := dk_182 0 86 (dk_at dksX1_unlike_1 7 rfl rfl)
theorem dX1_unlike_33 : decode cX1_unlike 33 = .ok (.iload 5, 2) := dk_21 5 (dk_at dksX1_unlike_1 10 rfl rfl)
theorem dX1_unlike_35 : decode cX1_unlike 35 = .ok (.sipush 255, 3) := dk_17 0 255 (dk_at dksX1_unlike_1 12 rfl rfl)
theorem dX1_unlike_38 : decode cX1_unlike 38 = .ok (.if_icmp .ge 16, 3) := dk_162 0 16 (dk_at dksX1_unlike_1 15 rfl rfl)
theorem dX1_unlike_41 : decode cX1_unlike 41 = .ok (.aload_n 3, 1) := dk_45 (dk_at dksX1_unlike_1 18 rfl rfl)
theorem dX1_unlike_42 : decode cX1_unlike 42 = .ok (.iload 5, 2) := dk_21 5 (dk_at dksX1_unlike_1 19 rfl rfl)
theorem dX1_unlike_44 : decode cX1_unlike 44 = .ok (.aload_n 2, 1) := dk_44 (dk_at dksX1_unlike_1 21 rfl rfl)
theorem dX1_unlike_45 : decode cX1_unlike 45 = .ok (.iload_n 1, 1) := dk_27 (dk_at dksX1_unlike_1 22 rfl rfl)
theorem dX1_unlike_46 : decode cX1_unlike 46 = .ok (.invokevirtual 89, 3) := dk_182 0 89 (dk_at dksX1_unlike_2 0 rfl rfl)
theorem dX1_unlike_49 : decode cX1_unlike 49 = .ok (.i2b, 1) := dk_145 (dk_at dksX1_unlike_2 3 rfl rfl)
theorem dX1_unlike_50 : decode cX1_unlike 50 = .ok (.bastore, 1) := dk_84 (dk_at dksX1_unlike_2 4 rfl rfl)
theorem dX1_unlike_51 : decode cX1_unlike 51 = .ok (.goto 40, 3) := dk_167 0 40 (dk_at dksX1_unlike_2 5 rfl rfl)
theorem dX1_unlike_54 : decode cX1_unlike 54 = .ok (.iload 4, 2) := dk_21 4 (dk_at dksX1_unlike_2 8 rfl rfl)
theorem dX1_unlike_56 : decode cX1_unlike 56 = .ok (.iload 5, 2) := dk_21 5 (dk_at dksX1_unlike_2 10 rfl rfl)
theorem dX1_unlike_58 : decode cX1_unlike 58 = .ok (.sipush 255, 3) := dk_17 0 255 (dk_at dksX1_unlike_2 12 rfl rfl)
theorem dX1_unlike_61 : decode cX1_unlike 61 = .ok (.isub, 1) := dk_100 (dk_at dksX1_unlike_2 15 rfl rfl)
theorem dX1_unlike_62 : decode cX1_unlike 62 = .ok (.bipush 60, 2) := dk_16 60 (dk_at dksX1_unlike_2 16 rfl rfl)
theorem dX1_unlike_64 : decode cX1_unlike 64 = .ok (.if_icmp .lt 23, 3) := dk_161 0 23 (dk_at dksX1_unlike_2 18 rfl rfl)
theorem dX1_unlike_67 : decode cX1_unlike 67 = .ok (.aload_n 3, 1) := dk_45 (dk_at dksX1_unlike_2 21 rfl rfl)
theorem dX1_unlike_68 : decode cX1_unlike 68 = .ok (.iload 5, 2) := dk_21 5 (dk_at dksX1_unlike_2 22 rfl rfl)
theorem dX1_unlike_70 : decode cX1_unlike 70 = .ok (.sipush 255, 3) := dk_17 0 255 (dk_at dksX1_unlike_3 0 rfl rfl)
theorem dX1_unlike_73 : decode cX1_unlike 73 = .ok (.isub, 1) := dk_100 (dk_at dksX1_unlike_3 3 rfl rfl)
theorem dX1_unlike_74 : decode cX1_unlike 74 = .ok (.baload, 1) := dk_51 (dk_at dksX1_unlike_3 4 rfl rfl)
theorem dX1_unlike_75 : decode cX1_unlike 75 = .ok (.aload_n 2, 1) := dk_44 (dk_at dksX1_unlike_3 5 rfl rfl)
theorem dX1_unlike_76 : decode cX1_unlike 76 = .ok (.iload_n 1, 1) := dk_27 (dk_at dksX1_unlike_3 6 rfl rfl)
theorem dX1_unlike_77 : decode cX1_unlike 77 = .ok (.invokevirtual 89, 3) := dk_182 0 89 (dk_at dksX1_unlike_3 7 rfl rfl)
theorem dX1_unlike_80 : decode cX1_unlike 80 = .ok (.if_icmp .eq 7, 3) := dk_159 0 7 (dk_at dksX1_unlike_3 10 rfl rfl)
theorem dX1_unlike_83 : decode cX1_unlike 83 = .ok (.iconst 1, 1) := dk_4 (dk_at dksX1_unlike_3 13 rfl rfl)
theorem dX1_unlike_84 : decode cX1_unlike 84 = .ok (.goto 4, 3) := dk_167 0 4 (dk_at dksX1_unlike_3 14 rfl rfl)
theorem dX1_unlike_87 : decode cX1_unlike 87 = .ok (.iconst 0, 1) := dk_3 (dk_at dksX1_unlike_3 17 rfl rfl)
theorem dX1_unlike_88 : decode cX1_unlike 88 = .ok (.iadd, 1) := dk_96 (dk_at dksX1_unlike_3 18 rfl rfl)
theorem dX1_unlike_89 : decode cX1_unlike 89 = .ok (.istore 4, 2) := dk_54 4 (dk_at dksX1_unlike_3 19 rfl rfl)
theorem dX1_unlike_91 : decode cX1_unlike 91 = .ok (.iinc 5 1, 3) := dk_132 5 1 (dk_at dksX1_unlike_3 21 rfl rfl)
theorem dX1_unlike_94 : decode cX1_unlike 94 = .ok (.goto (-73), 3) := dk_167 255 183 (dk_at dksX1_unlike_4 0 rfl rfl)
theorem dX1_unlike_97 : decode cX1_unlike 97 = .ok (.iload 4, 2) := dk_21 4 (dk_at dksX1_unlike_4 3 rfl rfl)
theorem dX1_unlike_99 : decode cX1_unlike 99 = .ok (.ireturn, 1) := dk_172 (dk_at dksX1_unlike_4 5 rfl rfl)
abbrev cX1_sources : ByteArray := prog_2_method_13_code
def yX1_sources : MethodName := ⟨RX1, "sources", "()I"⟩
def dkwX1_sources_2 : List UInt8 := [132, 2, 1, 167, 255, 211, 27, 172]
abbrev dktX1_sources_2 : List UInt8 := dkwX1_sources_2 ++ []
def dkwX1_sources_1 : List UInt8 := [185, 0, 28, 2, 0, 192, 0, 32, 185, 0, 95, 1, 0, 154, 0, 7, 4, 167, 0, 4, 3, 96, 60]
abbrev dktX1_sources_1 : List UInt8 := dkwX1_sources_1 ++ dktX1_sources_2
def dkwX1_sources_0 : List UInt8 := [3, 60, 3, 61, 28, 42, 180, 0, 12, 185, 0, 22, 1, 0, 162, 0, 38, 27, 42, 180, 0, 12, 28]
abbrev dktX1_sources_0 : List UInt8 := dkwX1_sources_0 ++ dktX1_sources_1
theorem dksX1_sources_0 : cX1_sources.data.toList.drop 0 = dktX1_sources_0 := by decide +kernel
theorem dksX1_sources_1 : cX1_sources.data.toList.drop 23 = dktX1_sources_1 := dk_seg dksX1_sources_0 23 rfl rfl
theorem dksX1_sources_2 : cX1_sources.data.toList.drop 46 = dktX1_sources_2 := dk_seg dksX1_sources_1 23 rfl rfl
theorem dX1_sources_0 : decode cX1_sources 0 = .ok (.iconst 0, 1) := dk_3 (dk_at dksX1_sources_0 0 rfl rfl)
theorem dX1_sources_1 : decode cX1_sources 1 = .ok (.istore_n 1, 1) := dk_60 (dk_at dksX1_sources_0 1 rfl rfl)
theorem dX1_sources_2 : decode cX1_sources 2 = .ok (.iconst 0, 1) := dk_3 (dk_at dksX1_sources_0 2 rfl rfl)
theorem dX1_sources_3 : decode cX1_sources 3 = .ok (.istore_n 2, 1) := dk_61 (dk_at dksX1_sources_0 3 rfl rfl)
theorem dX1_sources_4 : decode cX1_sources 4 = .ok (.iload_n 2, 1) := dk_28 (dk_at dksX1_sources_0 4 rfl rfl)
theorem dX1_sources_5 : decode cX1_sources 5 = .ok (.aload_n 0, 1) := dk_42 (dk_at dksX1_sources_0 5 rfl rfl)
theorem dX1_sources_6 : decode cX1_sources 6 = .ok (.getfield 12, 3) := dk_180 0 12 (dk_at dksX1_sources_0 6 rfl rfl)
theorem dX1_sources_9 : decode cX1_sources 9 = .ok (.invokeinterface 22 1, 5) := by decide +kernel
theorem dX1_sources_14 : decode cX1_sources 14 = .ok (.if_icmp .ge 38, 3) := dk_162 0 38 (dk_at dksX1_sources_0 14 rfl rfl)
theorem dX1_sources_17 : decode cX1_sources 17 = .ok (.iload_n 1, 1) := dk_27 (dk_at dksX1_sources_0 17 rfl rfl)
theorem dX1_sources_18 : decode cX1_sources 18 = .ok (.aload_n 0, 1) := dk_42 (dk_at dksX1_sources_0 18 rfl rfl)
theorem dX1_sources_19 : decode cX1_sources 19 = .ok (.getfield 12, 3) := dk_180 0 12 (dk_at dksX1_sources_0 19 rfl rfl)
theorem dX1_sources_22 : decode cX1_sources 22 = .ok (.iload_n 2, 1) := dk_28 (dk_at dksX1_sources_0 22 rfl rfl)
theorem dX1_sources_23 : decode cX1_sources 23 = .ok (.invokeinterface 28 2, 5) := by decide +kernel
theorem dX1_sources_28 : decode cX1_sources 28 = .ok (.checkcast 32, 3) := dk_192 0 32 (dk_at dksX1_sources_1 5 rfl rfl)
theorem dX1_sources_31 : decode cX1_sources 31 = .ok (.invokeinterface 95 1, 5) := by decide +kernel
theorem dX1_sources_36 : decode cX1_sources 36 = .ok (.ifCond .ne 7, 3) := dk_154 0 7 (dk_at dksX1_sources_1 13 rfl rfl)
theorem dX1_sources_39 : decode cX1_sources 39 = .ok (.iconst 1, 1) := dk_4 (dk_at dksX1_sources_1 16 rfl rfl)
theorem dX1_sources_40 : decode cX1_sources 40 = .ok (.goto 4, 3) := dk_167 0 4 (dk_at dksX1_sources_1 17 rfl rfl)
theorem dX1_sources_43 : decode cX1_sources 43 = .ok (.iconst 0, 1) := dk_3 (dk_at dksX1_sources_1 20 rfl rfl)
theorem dX1_sources_44 : decode cX1_sources 44 = .ok (.iadd, 1) := dk_96 (dk_at dksX1_sources_1 21 rfl rfl)
theorem dX1_sources_45 : decode cX1_sources 45 = .ok (.istore_n 1, 1) := dk_60 (dk_at dksX1_sources_1 22 rfl rfl)
theorem dX1_sources_46 : decode cX1_sources 46 = .ok (.iinc 2 1, 3) := dk_132 2 1 (dk_at dksX1_sources_2 0 rfl rfl)
theorem dX1_sources_49 : decode cX1_sources 49 = .ok (.goto (-45), 3) := dk_167 255 211 (dk_at dksX1_sources_2 3 rfl rfl)
theorem dX1_sources_52 : decode cX1_sources 52 = .ok (.iload_n 1, 1) := dk_27 (dk_at dksX1_sources_2 6 rfl rfl)
theorem dX1_sources_53 : decode cX1_sources 53 = .ok (.ireturn, 1) := dk_172 (dk_at dksX1_sources_2 7 rfl rfl)
abbrev cX1_errors : ByteArray := prog_2_method_9_code
def yX1_errors : MethodName := ⟨RX1, "errors", "()[I"⟩
def dkwX1_errors_5 : List UInt8 := [46, 100, 184, 0, 77, 79, 132, 4, 1, 167, 255, 223, 43, 176]
abbrev dktX1_errors_5 : List UInt8 := dkwX1_errors_5 ++ []
def dkwX1_errors_4 : List UInt8 := [21, 4, 43, 190, 162, 0, 32, 43, 21, 4, 43, 21, 4, 46, 42, 180, 0, 18, 184, 0, 56, 44, 21, 4]
abbrev dktX1_errors_4 : List UInt8 := dkwX1_errors_4 ++ dktX1_errors_5
def dkwX1_errors_3 : List UInt8 := [46, 45, 21, 5, 182, 0, 89, 96, 79, 132, 5, 1, 167, 255, 233, 132, 4, 1, 167, 255, 211, 3, 54, 4]
abbrev dktX1_errors_3 : List UInt8 := dkwX1_errors_3 ++ dktX1_errors_4
def dkwX1_errors_2 : List UInt8 := [180, 0, 18, 162, 0, 42, 45, 182, 0, 86, 3, 54, 5, 21, 5, 43, 190, 162, 0, 22, 43, 21, 5, 92]
abbrev dktX1_errors_2 : List UInt8 := dkwX1_errors_2 ++ dktX1_errors_3
def dkwX1_errors_1 : List UInt8 := [43, 176, 42, 182, 0, 73, 77, 187, 0, 42, 89, 42, 183, 0, 44, 78, 3, 54, 4, 21, 4, 42]
abbrev dktX1_errors_1 : List UInt8 := dkwX1_errors_1 ++ dktX1_errors_2
def dkwX1_errors_0 : List UInt8 := [42, 180, 0, 12, 185, 0, 22, 1, 0, 188, 10, 76, 42, 180, 0, 12, 185, 0, 82, 1, 0, 153, 0, 5]
abbrev dktX1_errors_0 : List UInt8 := dkwX1_errors_0 ++ dktX1_errors_1
theorem dksX1_errors_0 : cX1_errors.data.toList.drop 0 = dktX1_errors_0 := by decide +kernel
theorem dksX1_errors_1 : cX1_errors.data.toList.drop 24 = dktX1_errors_1 := dk_seg dksX1_errors_0 24 rfl rfl
theorem dksX1_errors_2 : cX1_errors.data.toList.drop 46 = dktX1_errors_2 := dk_seg dksX1_errors_1 22 rfl rfl
theorem dksX1_errors_3 : cX1_errors.data.toList.drop 70 = dktX1_errors_3 := dk_seg dksX1_errors_2 24 rfl rfl
theorem dksX1_errors_4 : cX1_errors.data.toList.drop 94 = dktX1_errors_4 := dk_seg dksX1_errors_3 24 rfl rfl
theorem dksX1_errors_5 : cX1_errors.data.toList.drop 118 = dktX1_errors_5 := dk_seg dksX1_errors_4 24 rfl rfl
theorem dX1_errors_0 : decode cX1_errors 0 = .ok (.aload_n 0, 1) := dk_42 (dk_at dksX1_errors_0 0 rfl rfl)
theorem dX1_errors_1 : decode cX1_errors 1 = .ok (.getfield 12, 3) := dk_180 0 12 (dk_at dksX1_errors_0 1 rfl rfl)
theorem dX1_errors_4 : decode cX1_errors 4 = .ok (.invokeinterface 22 1, 5) := by decide +kernel
theorem dX1_errors_9 : decode cX1_errors 9 = .ok (.newarray .int, 2) := dk_188_10 (dk_at dksX1_errors_0 9 rfl rfl)
theorem dX1_errors_11 : decode cX1_errors 11 = .ok (.astore_n 1, 1) := dk_76 (dk_at dksX1_errors_0 11 rfl rfl)
theorem dX1_errors_12 : decode cX1_errors 12 = .ok (.aload_n 0, 1) := dk_42 (dk_at dksX1_errors_0 12 rfl rfl)
theorem dX1_errors_13 : decode cX1_errors 13 = .ok (.getfield 12, 3) := dk_180 0 12 (dk_at dksX1_errors_0 13 rfl rfl)
theorem dX1_errors_16 : decode cX1_errors 16 = .ok (.invokeinterface 82 1, 5) := by decide +kernel
theorem dX1_errors_21 : decode cX1_errors 21 = .ok (.ifCond .eq 5, 3) := dk_153 0 5 (dk_at dksX1_errors_0 21 rfl rfl)
theorem dX1_errors_24 : decode cX1_errors 24 = .ok (.aload_n 1, 1) := dk_43 (dk_at dksX1_errors_1 0 rfl rfl)
theorem dX1_errors_25 : decode cX1_errors 25 = .ok (.areturn, 1) := dk_176 (dk_at dksX1_errors_1 1 rfl rfl)
theorem dX1_errors_26 : decode cX1_errors 26 = .ok (.aload_n 0, 1) := dk_42 (dk_at dksX1_errors_1 2 rfl rfl)
theorem dX1_errors_27 : decode cX1_errors 27 = .ok (.invokevirtual 73, 3) := dk_182 0 73 (dk_at dksX1_errors_1 3 rfl rfl)
theorem dX1_errors_30 : decode cX1_errors 30 = .ok (.astore_n 2, 1) := dk_77 (dk_at dksX1_errors_1 6 rfl rfl)
theorem dX1_errors_31 : decode cX1_errors 31 = .ok (.new 42, 3) := dk_187 0 42 (dk_at dksX1_errors_1 7 rfl rfl)
theorem dX1_errors_34 : decode cX1_errors 34 = .ok (.dup, 1) := dk_89 (dk_at dksX1_errors_1 10 rfl rfl)
theorem dX1_errors_35 : decode cX1_errors 35 = .ok (.aload_n 0, 1) := dk_42 (dk_at dksX1_errors_1 11 rfl rfl)
theorem dX1_errors_36 : decode cX1_errors 36 = .ok (.invokespecial 44, 3) := dk_183 0 44 (dk_at dksX1_errors_1 12 rfl rfl)
theorem dX1_errors_39 : decode cX1_errors 39 = .ok (.astore_n 3, 1) := dk_78 (dk_at dksX1_errors_1 15 rfl rfl)
theorem dX1_errors_40 : decode cX1_errors 40 = .ok (.iconst 0, 1) := dk_3 (dk_at dksX1_errors_1 16 rfl rfl)
theorem dX1_errors_41 : decode cX1_errors 41 = .ok (.istore 4, 2) := dk_54 4 (dk_at dksX1_errors_1 17 rfl rfl)
theorem dX1_errors_43 : decode cX1_errors 43 = .ok (.iload 4, 2) := dk_21 4 (dk_at dksX1_errors_1 19 rfl rfl)
theorem dX1_errors_45 : decode cX1_errors 45 = .ok (.aload_n 0, 1) := dk_42 (dk_at dksX1_errors_1 21 rfl rfl)
theorem dX1_errors_46 : decode cX1_errors 46 = .ok (.getfield 18, 3) := dk_180 0 18 (dk_at dksX1_errors_2 0 rfl rfl)
theorem dX1_errors_49 : decode cX1_errors 49 = .ok (.if_icmp .ge 42, 3) := dk_162 0 42 (dk_at dksX1_errors_2 3 rfl rfl)
theorem dX1_errors_52 : decode cX1_errors 52 = .ok (.aload_n 3, 1) := dk_45 (dk_at dksX1_errors_2 6 rfl rfl)
theorem dX1_errors_53 : decode cX1_errors 53 = .ok (.invokevirtual 86, 3) := dk_182 0 86 (dk_at dksX1_errors_2 7 rfl rfl)
theorem dX1_errors_56 : decode cX1_errors 56 = .ok (.iconst 0, 1) := dk_3 (dk_at dksX1_errors_2 10 rfl rfl)
theorem dX1_errors_57 : decode cX1_errors 57 = .ok (.istore 5, 2) := dk_54 5 (dk_at dksX1_errors_2 11 rfl rfl)
theorem dX1_errors_59 : decode cX1_errors 59 = .ok (.iload 5, 2) := dk_21 5 (dk_at dksX1_errors_2 13 rfl rfl)
theorem dX1_errors_61 : decode cX1_errors 61 = .ok (.aload_n 1, 1) := dk_43 (dk_at dksX1_errors_2 15 rfl rfl)
theorem dX1_errors_62 : decode cX1_errors 62 = .ok (.arraylength, 1) := dk_190 (dk_at dksX1_errors_2 16 rfl rfl)
theorem dX1_errors_63 : decode cX1_errors 63 = .ok (.if_icmp .ge 22, 3) := dk_162 0 22 (dk_at dksX1_errors_2 17 rfl rfl)
theorem dX1_errors_66 : decode cX1_errors 66 = .ok (.aload_n 1, 1) := dk_43 (dk_at dksX1_errors_2 20 rfl rfl)
theorem dX1_errors_67 : decode cX1_errors 67 = .ok (.iload 5, 2) := dk_21 5 (dk_at dksX1_errors_2 21 rfl rfl)
theorem dX1_errors_69 : decode cX1_errors 69 = .ok (.dup2, 1) := dk_92 (dk_at dksX1_errors_2 23 rfl rfl)
theorem dX1_errors_70 : decode cX1_errors 70 = .ok (.iaload, 1) := dk_46 (dk_at dksX1_errors_3 0 rfl rfl)
theorem dX1_errors_71 : decode cX1_errors 71 = .ok (.aload_n 3, 1) := dk_45 (dk_at dksX1_errors_3 1 rfl rfl)
theorem dX1_errors_72 : decode cX1_errors 72 = .ok (.iload 5, 2) := dk_21 5 (dk_at dksX1_errors_3 2 rfl rfl)
theorem dX1_errors_74 : decode cX1_errors 74 = .ok (.invokevirtual 89, 3) := dk_182 0 89 (dk_at dksX1_errors_3 4 rfl rfl)
theorem dX1_errors_77 : decode cX1_errors 77 = .ok (.iadd, 1) := dk_96 (dk_at dksX1_errors_3 7 rfl rfl)
theorem dX1_errors_78 : decode cX1_errors 78 = .ok (.iastore, 1) := dk_79 (dk_at dksX1_errors_3 8 rfl rfl)
theorem dX1_errors_79 : decode cX1_errors 79 = .ok (.iinc 5 1, 3) := dk_132 5 1 (dk_at dksX1_errors_3 9 rfl rfl)
theorem dX1_errors_82 : decode cX1_errors 82 = .ok (.goto (-23), 3) := dk_167 255 233 (dk_at dksX1_errors_3 12 rfl rfl)
theorem dX1_errors_85 : decode cX1_errors 85 = .ok (.iinc 4 1, 3) := dk_132 4 1 (dk_at dksX1_errors_3 15 rfl rfl)
theorem dX1_errors_88 : decode cX1_errors 88 = .ok (.goto (-45), 3) := dk_167 255 211 (dk_at dksX1_errors_3 18 rfl rfl)
theorem dX1_errors_91 : decode cX1_errors 91 = .ok (.iconst 0, 1) := dk_3 (dk_at dksX1_errors_3 21 rfl rfl)
theorem dX1_errors_92 : decode cX1_errors 92 = .ok (.istore 4, 2) := dk_54 4 (dk_at dksX1_errors_3 22 rfl rfl)
theorem dX1_errors_94 : decode cX1_errors 94 = .ok (.iload 4, 2) := dk_21 4 (dk_at dksX1_errors_4 0 rfl rfl)
theorem dX1_errors_96 : decode cX1_errors 96 = .ok (.aload_n 1, 1) := dk_43 (dk_at dksX1_errors_4 2 rfl rfl)
theorem dX1_errors_97 : decode cX1_errors 97 = .ok (.arraylength, 1) := dk_190 (dk_at dksX1_errors_4 3 rfl rfl)
theorem dX1_errors_98 : decode cX1_errors 98 = .ok (.if_icmp .ge 32, 3) := dk_162 0 32 (dk_at dksX1_errors_4 4 rfl rfl)
theorem dX1_errors_101 : decode cX1_errors 101 = .ok (.aload_n 1, 1) := dk_43 (dk_at dksX1_errors_4 7 rfl rfl)
theorem dX1_errors_102 : decode cX1_errors 102 = .ok (.iload 4, 2) := dk_21 4 (dk_at dksX1_errors_4 8 rfl rfl)
theorem dX1_errors_104 : decode cX1_errors 104 = .ok (.aload_n 1, 1) := dk_43 (dk_at dksX1_errors_4 10 rfl rfl)
theorem dX1_errors_105 : decode cX1_errors 105 = .ok (.iload 4, 2) := dk_21 4 (dk_at dksX1_errors_4 11 rfl rfl)
theorem dX1_errors_107 : decode cX1_errors 107 = .ok (.iaload, 1) := dk_46 (dk_at dksX1_errors_4 13 rfl rfl)
theorem dX1_errors_108 : decode cX1_errors 108 = .ok (.aload_n 0, 1) := dk_42 (dk_at dksX1_errors_4 14 rfl rfl)
theorem dX1_errors_109 : decode cX1_errors 109 = .ok (.getfield 18, 3) := dk_180 0 18 (dk_at dksX1_errors_4 15 rfl rfl)
theorem dX1_errors_112 : decode cX1_errors 112 = .ok (.invokestatic 56, 3) := dk_184 0 56 (dk_at dksX1_errors_4 18 rfl rfl)
theorem dX1_errors_115 : decode cX1_errors 115 = .ok (.aload_n 2, 1) := dk_44 (dk_at dksX1_errors_4 21 rfl rfl)
theorem dX1_errors_116 : decode cX1_errors 116 = .ok (.iload 4, 2) := dk_21 4 (dk_at dksX1_errors_4 22 rfl rfl)
theorem dX1_errors_118 : decode cX1_errors 118 = .ok (.iaload, 1) := dk_46 (dk_at dksX1_errors_5 0 rfl rfl)
theorem dX1_errors_119 : decode cX1_errors 119 = .ok (.isub, 1) := dk_100 (dk_at dksX1_errors_5 1 rfl rfl)
theorem dX1_errors_120 : decode cX1_errors 120 = .ok (.invokestatic 77, 3) := dk_184 0 77 (dk_at dksX1_errors_5 2 rfl rfl)
theorem dX1_errors_123 : decode cX1_errors 123 = .ok (.iastore, 1) := dk_79 (dk_at dksX1_errors_5 5 rfl rfl)
theorem dX1_errors_124 : decode cX1_errors 124 = .ok (.iinc 4 1, 3) := dk_132 4 1 (dk_at dksX1_errors_5 6 rfl rfl)
theorem dX1_errors_127 : decode cX1_errors 127 = .ok (.goto (-33), 3) := dk_167 255 223 (dk_at dksX1_errors_5 9 rfl rfl)
theorem dX1_errors_130 : decode cX1_errors 130 = .ok (.aload_n 1, 1) := dk_43 (dk_at dksX1_errors_5 12 rfl rfl)
theorem dX1_errors_131 : decode cX1_errors 131 = .ok (.areturn, 1) := dk_176 (dk_at dksX1_errors_5 13 rfl rfl)
abbrev cX1_deepest : ByteArray := prog_2_method_12_code
def yX1_deepest : MethodName := ⟨RX1, "deepest", "()I"⟩
def dkwX1_deepest_1 : List UInt8 := [132, 3, 1, 167, 255, 239, 28, 172]
abbrev dktX1_deepest_1 : List UInt8 := dkwX1_deepest_1 ++ []
def dkwX1_deepest_0 : List UInt8 := [42, 182, 0, 98, 76, 3, 61, 3, 62, 29, 16, 16, 162, 0, 17, 28, 43, 29, 46, 184, 0, 92, 61]
abbrev dktX1_deepest_0 : List UInt8 := dkwX1_deepest_0 ++ dktX1_deepest_1
theorem dksX1_deepest_0 : cX1_deepest.data.toList.drop 0 = dktX1_deepest_0 := by decide +kernel
theorem dksX1_deepest_1 : cX1_deepest.data.toList.drop 23 = dktX1_deepest_1 := dk_seg dksX1_deepest_0 23 rfl rfl
theorem dX1_deepest_0 : decode cX1_deepest 0 = .ok (.aload_n 0, 1) := dk_42 (dk_at dksX1_deepest_0 0 rfl rfl)
theorem dX1_deepest_1 : decode cX1_deepest 1 = .ok (.invokevirtual 98, 3) := dk_182 0 98 (dk_at dksX1_deepest_0 1 rfl rfl)
theorem dX1_deepest_4 : decode cX1_deepest 4 = .ok (.astore_n 1, 1) := dk_76 (dk_at dksX1_deepest_0 4 rfl rfl)
theorem dX1_deepest_5 : decode cX1_deepest 5 = .ok (.iconst 0, 1) := dk_3 (dk_at dksX1_deepest_0 5 rfl rfl)
theorem dX1_deepest_6 : decode cX1_deepest 6 = .ok (.istore_n 2, 1) := dk_61 (dk_at dksX1_deepest_0 6 rfl rfl)
theorem dX1_deepest_7 : decode cX1_deepest 7 = .ok (.iconst 0, 1) := dk_3 (dk_at dksX1_deepest_0 7 rfl rfl)
theorem dX1_deepest_8 : decode cX1_deepest 8 = .ok (.istore_n 3, 1) := dk_62 (dk_at dksX1_deepest_0 8 rfl rfl)
theorem dX1_deepest_9 : decode cX1_deepest 9 = .ok (.iload_n 3, 1) := dk_29 (dk_at dksX1_deepest_0 9 rfl rfl)
theorem dX1_deepest_10 : decode cX1_deepest 10 = .ok (.bipush 16, 2) := dk_16 16 (dk_at dksX1_deepest_0 10 rfl rfl)
theorem dX1_deepest_12 : decode cX1_deepest 12 = .ok (.if_icmp .ge 17, 3) := dk_162 0 17 (dk_at dksX1_deepest_0 12 rfl rfl)
theorem dX1_deepest_15 : decode cX1_deepest 15 = .ok (.iload_n 2, 1) := dk_28 (dk_at dksX1_deepest_0 15 rfl rfl)
theorem dX1_deepest_16 : decode cX1_deepest 16 = .ok (.aload_n 1, 1) := dk_43 (dk_at dksX1_deepest_0 16 rfl rfl)
theorem dX1_deepest_17 : decode cX1_deepest 17 = .ok (.iload_n 3, 1) := dk_29 (dk_at dksX1_deepest_0 17 rfl rfl)
theorem dX1_deepest_18 : decode cX1_deepest 18 = .ok (.iaload, 1) := dk_46 (dk_at dksX1_deepest_0 18 rfl rfl)
theorem dX1_deepest_19 : decode cX1_deepest 19 = .ok (.invokestatic 92, 3) := dk_184 0 92 (dk_at dksX1_deepest_0 19 rfl rfl)
theorem dX1_deepest_22 : decode cX1_deepest 22 = .ok (.istore_n 2, 1) := dk_61 (dk_at dksX1_deepest_0 22 rfl rfl)
theorem dX1_deepest_23 : decode cX1_deepest 23 = .ok (.iinc 3 1, 3) := dk_132 3 1 (dk_at dksX1_deepest_1 0 rfl rfl)
theorem dX1_deepest_26 : decode cX1_deepest 26 = .ok (.goto (-17), 3) := dk_167 255 239 (dk_at dksX1_deepest_1 3 rfl rfl)
theorem dX1_deepest_29 : decode cX1_deepest 29 = .ok (.iload_n 2, 1) := dk_28 (dk_at dksX1_deepest_1 6 rfl rfl)
theorem dX1_deepest_30 : decode cX1_deepest 30 = .ok (.ireturn, 1) := dk_172 (dk_at dksX1_deepest_1 7 rfl rfl)
theorem q45 : (Jvm.Cond.initialized "ShareStreams$Bench") ∈ lw_all := lw_g (lw_at lw_m1 2 rfl) rfl
theorem q75 : (Jvm.Cond.instantiable "ShareStreams$Bench" (2 : Nat)) ∈ lw_all := lw_g (lw_at lw_m1 32 rfl) rfl
theorem q77 : (Jvm.Cond.instanceMethod ({ cls := "ShareStreams$Bench", name := "<init>", desc := "()V" } : Jvm.MethodName)) ∈ lw_all := lw_g (lw_at lw_m1 34 rfl) rfl
theorem q78 : (Jvm.Cond.code ({ cls := "ShareStreams$Bench", name := "<init>", desc := "()V" } : Jvm.MethodName) prog_2_method_1_code (1 : Nat) (Option.none : Option Jvm.ClassFile.FieldType)) ∈ lw_all := lw_g (lw_at lw_m1 35 rfl) rfl
theorem q79 : (Jvm.Cond.methodLink "ShareStreams$Bench" (3 : Nat) ({ cls := "java/lang/Object", name := "<init>", desc := "()V" } : Jvm.MethodName)) ∈ lw_all := lw_g (lw_at lw_m1 36 rfl) rfl
theorem q80 : (Jvm.Cond.classLink "ShareStreams$Bench" (9 : Nat) "java/util/ArrayList") ∈ lw_all := lw_g (lw_at lw_m1 37 rfl) rfl
theorem q82 : (Jvm.Cond.methodLink "ShareStreams$Bench" (11 : Nat) ({ cls := "java/util/ArrayList", name := "<init>", desc := "()V" } : Jvm.MethodName)) ∈ lw_all := lw_g (lw_at lw_m1 39 rfl) rfl
theorem q106 : (Jvm.Cond.fieldLink "ShareStreams$Bench" (12 : Nat) "ShareStreams$Bench" "lines" "Ljava/util/List;") ∈ lw_all := lw_g (lw_at lw_m1 63 rfl) rfl
theorem q109 : (Jvm.Cond.fieldLink "ShareStreams$Bench" (18 : Nat) "ShareStreams$Bench" "length" "I") ∈ lw_all := lw_g (lw_at lw_m1 66 rfl) rfl
theorem q111 : (Jvm.Cond.laysFinal "ShareStreams$Bench" "ShareStreams$Bench" "lines" "Ljava/util/List;") ∈ lw_all := lw_g (lw_at lw_m1 68 rfl) rfl
theorem q112 : (Jvm.Cond.soleField "ShareStreams$Bench" "lines") ∈ lw_all := lw_g (lw_at lw_m1 69 rfl) rfl
theorem q113 : (Jvm.Cond.lays "ShareStreams$Bench" "ShareStreams$Bench" "length" "I") ∈ lw_all := lw_g (lw_at lw_m1 70 rfl) rfl
theorem q114 : (Jvm.Cond.soleField "ShareStreams$Bench" "length") ∈ lw_all := lw_g (lw_at lw_m1 71 rfl) rfl
theorem q115 : (Jvm.Cond.superclass "ShareStreams$Bench" "java/lang/Object") ∈ lw_all := lw_g (lw_at lw_m1 72 rfl) rfl
theorem q203 : (Jvm.Cond.instanceMethod ({ cls := "ShareStreams$Bench", name := "<init>", desc := "(LShareStreams$Bench;)V" } : Jvm.MethodName)) ∈ lw_all := lw_g (lw_at lw_m1 160 rfl) rfl
theorem q204 : (Jvm.Cond.code ({ cls := "ShareStreams$Bench", name := "<init>", desc := "(LShareStreams$Bench;)V" } : Jvm.MethodName) prog_2_method_2_code (3 : Nat) (Option.none : Option Jvm.ClassFile.FieldType)) ∈ lw_all := lw_g (lw_at lw_m1 161 rfl) rfl
theorem q205 : (Jvm.Cond.interfaceEntry "ShareStreams$Bench" (22 : Nat)) ∈ lw_tbl := lw_at lw_m1 162 rfl
theorem q206 : (Jvm.Cond.methodLink "ShareStreams$Bench" (22 : Nat) ({ cls := "java/util/List", name := "size", desc := "()I" } : Jvm.MethodName)) ∈ lw_all := lw_g (lw_at lw_m1 163 rfl) rfl
theorem q207 : (Jvm.Cond.interfaceEntry "ShareStreams$Bench" (28 : Nat)) ∈ lw_tbl := lw_at lw_m1 164 rfl
theorem q208 : (Jvm.Cond.methodLink "ShareStreams$Bench" (28 : Nat) ({ cls := "java/util/List", name := "get", desc := "(I)Ljava/lang/Object;" } : Jvm.MethodName)) ∈ lw_all := lw_g (lw_at lw_m1 165 rfl) rfl
theorem q226 : (Jvm.Cond.classLink "ShareStreams$Bench" (32 : Nat) "ShareStreams$Line") ∈ lw_all := lw_g (lw_at lw_m1 183 rfl) rfl
theorem q227 : (Jvm.Cond.interfaceEntry "ShareStreams$Bench" (34 : Nat)) ∈ lw_tbl := lw_at lw_m1 184 rfl
theorem q228 : (Jvm.Cond.methodLink "ShareStreams$Bench" (34 : Nat) ({ cls := "java/util/List", name := "add", desc := "(Ljava/lang/Object;)Z" } : Jvm.MethodName)) ∈ lw_all := lw_g (lw_at lw_m1 185 rfl) rfl
theorem q265 : (Jvm.Cond.selects "ShareStreams$Bench" ({ cls := "java/lang/Object", name := "getClass", desc := "()Ljava/lang/Class;" } : Jvm.MethodName) ({ cls := "java/lang/Object", name := "getClass", desc := "()Ljava/lang/Class;" } : Jvm.MethodName)) ∈ lw_all := lw_g (lw_at lw_m1 222 rfl) rfl
theorem q314 : (Jvm.Cond.instanceMethod ({ cls := "ShareStreams$Bench", name := "isLine", desc := "(I)Z" } : Jvm.MethodName)) ∈ lw_all := lw_g (lw_at lw_m2 31 rfl) rfl
theorem q315 : (Jvm.Cond.selects "ShareStreams$Bench" ({ cls := "ShareStreams$Bench", name := "isLine", desc := "(I)Z" } : Jvm.MethodName) ({ cls := "ShareStreams$Bench", name := "isLine", desc := "(I)Z" } : Jvm.MethodName)) ∈ lw_all := lw_g (lw_at lw_m2 32 rfl) rfl
theorem q316 : (Jvm.Cond.code ({ cls := "ShareStreams$Bench", name := "isLine", desc := "(I)Z" } : Jvm.MethodName) prog_2_method_3_code (2 : Nat) (Option.some Jvm.ClassFile.FieldType.boolean)) ∈ lw_all := lw_g (lw_at lw_m2 33 rfl) rfl
theorem q317 : (Jvm.Cond.methodLinkNest "ShareStreams$Bench" (38 : Nat) ({ cls := "ShareStreams", name := "inRange", desc := "(III)Z" } : Jvm.MethodName) "ShareStreams") ∈ lw_tbl := lw_at lw_m2 34 rfl
theorem q725 : (Jvm.Cond.instanceMethod ({ cls := "ShareStreams$Bench", name := "countOf", desc := "(II)I" } : Jvm.MethodName)) ∈ lw_all := lw_g (lw_at lw_m3 202 rfl) rfl
theorem q726 : (Jvm.Cond.selects "ShareStreams$Bench" ({ cls := "ShareStreams$Bench", name := "countOf", desc := "(II)I" } : Jvm.MethodName) ({ cls := "ShareStreams$Bench", name := "countOf", desc := "(II)I" } : Jvm.MethodName)) ∈ lw_all := lw_g (lw_at lw_m3 203 rfl) rfl
theorem q727 : (Jvm.Cond.code ({ cls := "ShareStreams$Bench", name := "countOf", desc := "(II)I" } : Jvm.MethodName) prog_2_method_4_code (3 : Nat) (Option.some Jvm.ClassFile.FieldType.int)) ∈ lw_all := lw_g (lw_at lw_m3 204 rfl) rfl
theorem q728 : (Jvm.Cond.classLink "ShareStreams$Bench" (42 : Nat) "ShareStreams$Run") ∈ lw_all := lw_g (lw_at lw_m3 205 rfl) rfl
theorem q730 : (Jvm.Cond.methodLink "ShareStreams$Bench" (44 : Nat) ({ cls := "ShareStreams$Run", name := "<init>", desc := "(LShareStreams$Bench;)V" } : Jvm.MethodName)) ∈ lw_all := lw_g (lw_at lw_m3 207 rfl) rfl
theorem q749 : (Jvm.Cond.fieldLinkNest "ShareStreams$Bench" (105 : Nat) "ShareStreams$Run" "registers" "[I" "ShareStreams") ∈ lw_tbl := lw_at lw_m3 226 rfl
theorem q761 : (Jvm.Cond.methodLink "ShareStreams$Bench" (47 : Nat) ({ cls := "ShareStreams$Run", name := "count", desc := "(II)I" } : Jvm.MethodName)) ∈ lw_all := lw_g (lw_at lw_m3 238 rfl) rfl
theorem q799 : (Jvm.Cond.instanceMethod ({ cls := "ShareStreams$Bench", name := "share", desc := "(II)I" } : Jvm.MethodName)) ∈ lw_all := lw_g (lw_at lw_m4 36 rfl) rfl
theorem q800 : (Jvm.Cond.selects "ShareStreams$Bench" ({ cls := "ShareStreams$Bench", name := "share", desc := "(II)I" } : Jvm.MethodName) ({ cls := "ShareStreams$Bench", name := "share", desc := "(II)I" } : Jvm.MethodName)) ∈ lw_all := lw_g (lw_at lw_m4 37 rfl) rfl
theorem q801 : (Jvm.Cond.code ({ cls := "ShareStreams$Bench", name := "share", desc := "(II)I" } : Jvm.MethodName) prog_2_method_6_code (3 : Nat) (Option.some Jvm.ClassFile.FieldType.int)) ∈ lw_all := lw_g (lw_at lw_m4 38 rfl) rfl
theorem q802 : (Jvm.Cond.methodLink "ShareStreams$Bench" (53 : Nat) ({ cls := "ShareStreams$Bench", name := "countOf", desc := "(II)I" } : Jvm.MethodName)) ∈ lw_all := lw_g (lw_at lw_m4 39 rfl) rfl
theorem q803 : (Jvm.Cond.methodLink "ShareStreams$Bench" (56 : Nat) ({ cls := "ShareStreams$Bench", name := "shareOf", desc := "(II)I" } : Jvm.MethodName)) ∈ lw_all := lw_g (lw_at lw_m4 40 rfl) rfl
theorem q804 : (Jvm.Cond.static ({ cls := "ShareStreams$Bench", name := "shareOf", desc := "(II)I" } : Jvm.MethodName)) ∈ lw_all := lw_g (lw_at lw_m4 41 rfl) rfl
theorem q805 : (Jvm.Cond.code ({ cls := "ShareStreams$Bench", name := "shareOf", desc := "(II)I" } : Jvm.MethodName) prog_2_method_5_code (2 : Nat) (Option.some Jvm.ClassFile.FieldType.int)) ∈ lw_all := lw_g (lw_at lw_m4 42 rfl) rfl
theorem q806 : (Jvm.Cond.constantLong "ShareStreams$Bench" (51 : Nat) (65536 : Int64)) ∈ lw_all := lw_g (lw_at lw_m4 43 rfl) rfl
theorem q808 : (Jvm.Cond.instanceMethod ({ cls := "ShareStreams$Bench", name := "exact", desc := "()[I" } : Jvm.MethodName)) ∈ lw_all := lw_g (lw_at lw_m4 45 rfl) rfl
theorem q809 : (Jvm.Cond.selects "ShareStreams$Bench" ({ cls := "ShareStreams$Bench", name := "exact", desc := "()[I" } : Jvm.MethodName) ({ cls := "ShareStreams$Bench", name := "exact", desc := "()[I" } : Jvm.MethodName)) ∈ lw_all := lw_g (lw_at lw_m4 46 rfl) rfl
theorem q810 : (Jvm.Cond.code ({ cls := "ShareStreams$Bench", name := "exact", desc := "()[I" } : Jvm.MethodName) prog_2_method_7_code (4 : Nat) (Option.some (Jvm.ClassFile.FieldType.array Jvm.ClassFile.FieldType.int))) ∈ lw_all := lw_g (lw_at lw_m4 47 rfl) rfl
theorem q811 : (Jvm.Cond.interfaceEntry "ShareStreams$Bench" (59 : Nat)) ∈ lw_tbl := lw_at lw_m4 48 rfl
theorem q812 : (Jvm.Cond.methodLink "ShareStreams$Bench" (59 : Nat) ({ cls := "ShareStreams$Line", name := "isLine", desc := "(I)Z" } : Jvm.MethodName)) ∈ lw_all := lw_g (lw_at lw_m4 49 rfl) rfl
theorem q813 : (Jvm.Cond.interfaceEntry "ShareStreams$Bench" (63 : Nat)) ∈ lw_tbl := lw_at lw_m4 50 rfl
theorem q814 : (Jvm.Cond.methodLink "ShareStreams$Bench" (63 : Nat) ({ cls := "ShareStreams$Line", name := "number", desc := "(I)I" } : Jvm.MethodName)) ∈ lw_all := lw_g (lw_at lw_m4 51 rfl) rfl
theorem q815 : (Jvm.Cond.interfaceEntry "ShareStreams$Bench" (67 : Nat)) ∈ lw_tbl := lw_at lw_m4 52 rfl
theorem q816 : (Jvm.Cond.methodLink "ShareStreams$Bench" (67 : Nat) ({ cls := "ShareStreams$Line", name := "share", desc := "(JJJ)I" } : Jvm.MethodName)) ∈ lw_all := lw_g (lw_at lw_m4 53 rfl) rfl
theorem q827 : (Jvm.Cond.instanceMethod ({ cls := "ShareStreams$Bench", name := "error", desc := "(II)I" } : Jvm.MethodName)) ∈ lw_all := lw_g (lw_at lw_m4 64 rfl) rfl
theorem q828 : (Jvm.Cond.selects "ShareStreams$Bench" ({ cls := "ShareStreams$Bench", name := "error", desc := "(II)I" } : Jvm.MethodName) ({ cls := "ShareStreams$Bench", name := "error", desc := "(II)I" } : Jvm.MethodName)) ∈ lw_all := lw_g (lw_at lw_m4 65 rfl) rfl
theorem q829 : (Jvm.Cond.code ({ cls := "ShareStreams$Bench", name := "error", desc := "(II)I" } : Jvm.MethodName) prog_2_method_8_code (3 : Nat) (Option.some Jvm.ClassFile.FieldType.int)) ∈ lw_all := lw_g (lw_at lw_m4 66 rfl) rfl
theorem q830 : (Jvm.Cond.methodLink "ShareStreams$Bench" (71 : Nat) ({ cls := "ShareStreams$Bench", name := "share", desc := "(II)I" } : Jvm.MethodName)) ∈ lw_all := lw_g (lw_at lw_m4 67 rfl) rfl
theorem q831 : (Jvm.Cond.methodLink "ShareStreams$Bench" (73 : Nat) ({ cls := "ShareStreams$Bench", name := "exact", desc := "()[I" } : Jvm.MethodName)) ∈ lw_all := lw_g (lw_at lw_m4 68 rfl) rfl
theorem q832 : (Jvm.Cond.methodLink "ShareStreams$Bench" (77 : Nat) ({ cls := "java/lang/Math", name := "abs", desc := "(I)I" } : Jvm.MethodName)) ∈ lw_all := lw_g (lw_at lw_m4 69 rfl) rfl
theorem q836 : (Jvm.Cond.instanceMethod ({ cls := "ShareStreams$Bench", name := "depths", desc := "()[I" } : Jvm.MethodName)) ∈ lw_all := lw_g (lw_at lw_m4 73 rfl) rfl
theorem q837 : (Jvm.Cond.selects "ShareStreams$Bench" ({ cls := "ShareStreams$Bench", name := "depths", desc := "()[I" } : Jvm.MethodName) ({ cls := "ShareStreams$Bench", name := "depths", desc := "()[I" } : Jvm.MethodName)) ∈ lw_all := lw_g (lw_at lw_m4 74 rfl) rfl
theorem q838 : (Jvm.Cond.code ({ cls := "ShareStreams$Bench", name := "depths", desc := "()[I" } : Jvm.MethodName) prog_2_method_10_code (5 : Nat) (Option.some (Jvm.ClassFile.FieldType.array Jvm.ClassFile.FieldType.int))) ∈ lw_all := lw_g (lw_at lw_m4 75 rfl) rfl
theorem q839 : (Jvm.Cond.methodLink "ShareStreams$Bench" (92 : Nat) ({ cls := "java/lang/Math", name := "max", desc := "(II)I" } : Jvm.MethodName)) ∈ lw_all := lw_g (lw_at lw_m4 76 rfl) rfl
theorem q841 : (Jvm.Cond.instanceMethod ({ cls := "ShareStreams$Bench", name := "origins", desc := "()[I" } : Jvm.MethodName)) ∈ lw_all := lw_g (lw_at lw_m4 78 rfl) rfl
theorem q842 : (Jvm.Cond.selects "ShareStreams$Bench" ({ cls := "ShareStreams$Bench", name := "origins", desc := "()[I" } : Jvm.MethodName) ({ cls := "ShareStreams$Bench", name := "origins", desc := "()[I" } : Jvm.MethodName)) ∈ lw_all := lw_g (lw_at lw_m4 79 rfl) rfl
theorem q843 : (Jvm.Cond.code ({ cls := "ShareStreams$Bench", name := "origins", desc := "()[I" } : Jvm.MethodName) prog_2_method_11_code (5 : Nat) (Option.some (Jvm.ClassFile.FieldType.array Jvm.ClassFile.FieldType.int))) ∈ lw_all := lw_g (lw_at lw_m4 80 rfl) rfl
theorem q844 : (Jvm.Cond.interfaceEntry "ShareStreams$Bench" (95 : Nat)) ∈ lw_tbl := lw_at lw_m4 81 rfl
theorem q845 : (Jvm.Cond.methodLink "ShareStreams$Bench" (95 : Nat) ({ cls := "ShareStreams$Line", name := "kind", desc := "()I" } : Jvm.MethodName)) ∈ lw_all := lw_g (lw_at lw_m4 82 rfl) rfl
theorem q861 : (Jvm.Cond.instanceMethod ({ cls := "ShareStreams$Bench", name := "overlap", desc := "(II)J" } : Jvm.MethodName)) ∈ lw_all := lw_g (lw_at lw_m4 98 rfl) rfl
theorem q862 : (Jvm.Cond.selects "ShareStreams$Bench" ({ cls := "ShareStreams$Bench", name := "overlap", desc := "(II)J" } : Jvm.MethodName) ({ cls := "ShareStreams$Bench", name := "overlap", desc := "(II)J" } : Jvm.MethodName)) ∈ lw_all := lw_g (lw_at lw_m4 99 rfl) rfl
theorem q863 : (Jvm.Cond.code ({ cls := "ShareStreams$Bench", name := "overlap", desc := "(II)J" } : Jvm.MethodName) prog_2_method_15_code (11 : Nat) (Option.some Jvm.ClassFile.FieldType.long)) ∈ lw_all := lw_g (lw_at lw_m4 100 rfl) rfl
theorem q864 : (Jvm.Cond.methodLink "ShareStreams$Bench" (86 : Nat) ({ cls := "ShareStreams$Run", name := "step", desc := "()V" } : Jvm.MethodName)) ∈ lw_all := lw_g (lw_at lw_m4 101 rfl) rfl
theorem q865 : (Jvm.Cond.methodLink "ShareStreams$Bench" (89 : Nat) ({ cls := "ShareStreams$Run", name := "bit", desc := "(I)I" } : Jvm.MethodName)) ∈ lw_all := lw_g (lw_at lw_m4 102 rfl) rfl
theorem q877 : (Jvm.Cond.instanceMethod ({ cls := "ShareStreams$Bench", name := "settles", desc := "(II)I" } : Jvm.MethodName)) ∈ lw_all := lw_g (lw_at lw_m4 114 rfl) rfl
theorem q878 : (Jvm.Cond.selects "ShareStreams$Bench" ({ cls := "ShareStreams$Bench", name := "settles", desc := "(II)I" } : Jvm.MethodName) ({ cls := "ShareStreams$Bench", name := "settles", desc := "(II)I" } : Jvm.MethodName)) ∈ lw_all := lw_g (lw_at lw_m4 115 rfl) rfl
theorem q879 : (Jvm.Cond.code ({ cls := "ShareStreams$Bench", name := "settles", desc := "(II)I" } : Jvm.MethodName) prog_2_method_14_code (8 : Nat) (Option.some Jvm.ClassFile.FieldType.int)) ∈ lw_all := lw_g (lw_at lw_m4 116 rfl) rfl
theorem q880 : (Jvm.Cond.constant "ShareStreams$Bench" (101 : Nat) (-100000005 : Int32)) ∈ lw_all := lw_g (lw_at lw_m4 117 rfl) rfl
theorem q888 : (Jvm.Cond.instanceMethod ({ cls := "ShareStreams$Bench", name := "errorWith", desc := "(LShareStreams$Run;III)I" } : Jvm.MethodName)) ∈ lw_all := lw_g (lw_at lw_m4 125 rfl) rfl
theorem q889 : (Jvm.Cond.selects "ShareStreams$Bench" ({ cls := "ShareStreams$Bench", name := "errorWith", desc := "(LShareStreams$Run;III)I" } : Jvm.MethodName) ({ cls := "ShareStreams$Bench", name := "errorWith", desc := "(LShareStreams$Run;III)I" } : Jvm.MethodName)) ∈ lw_all := lw_g (lw_at lw_m4 126 rfl) rfl
theorem q890 : (Jvm.Cond.code ({ cls := "ShareStreams$Bench", name := "errorWith", desc := "(LShareStreams$Run;III)I" } : Jvm.MethodName) prog_2_method_17_code (5 : Nat) (Option.some Jvm.ClassFile.FieldType.int)) ∈ lw_all := lw_g (lw_at lw_m4 127 rfl) rfl
theorem q891 : (Jvm.Cond.methodLink "ShareStreams$Bench" (102 : Nat) ({ cls := "ShareStreams$Run", name := "begin", desc := "()V" } : Jvm.MethodName)) ∈ lw_all := lw_g (lw_at lw_m4 128 rfl) rfl
theorem q897 : (Jvm.Cond.instanceMethod ({ cls := "ShareStreams$Bench", name := "unlike", desc := "(I)I" } : Jvm.MethodName)) ∈ lw_all := lw_g (lw_at lw_m4 134 rfl) rfl
theorem q898 : (Jvm.Cond.selects "ShareStreams$Bench" ({ cls := "ShareStreams$Bench", name := "unlike", desc := "(I)I" } : Jvm.MethodName) ({ cls := "ShareStreams$Bench", name := "unlike", desc := "(I)I" } : Jvm.MethodName)) ∈ lw_all := lw_g (lw_at lw_m4 135 rfl) rfl
theorem q899 : (Jvm.Cond.code ({ cls := "ShareStreams$Bench", name := "unlike", desc := "(I)I" } : Jvm.MethodName) prog_2_method_16_code (6 : Nat) (Option.some Jvm.ClassFile.FieldType.int)) ∈ lw_all := lw_g (lw_at lw_m4 136 rfl) rfl
theorem q905 : (Jvm.Cond.instanceMethod ({ cls := "ShareStreams$Bench", name := "sources", desc := "()I" } : Jvm.MethodName)) ∈ lw_all := lw_g (lw_at lw_m4 142 rfl) rfl
theorem q906 : (Jvm.Cond.selects "ShareStreams$Bench" ({ cls := "ShareStreams$Bench", name := "sources", desc := "()I" } : Jvm.MethodName) ({ cls := "ShareStreams$Bench", name := "sources", desc := "()I" } : Jvm.MethodName)) ∈ lw_all := lw_g (lw_at lw_m4 143 rfl) rfl
theorem q907 : (Jvm.Cond.code ({ cls := "ShareStreams$Bench", name := "sources", desc := "()I" } : Jvm.MethodName) prog_2_method_13_code (3 : Nat) (Option.some Jvm.ClassFile.FieldType.int)) ∈ lw_all := lw_g (lw_at lw_m4 144 rfl) rfl
theorem q909 : (Jvm.Cond.instanceMethod ({ cls := "ShareStreams$Bench", name := "errors", desc := "()[I" } : Jvm.MethodName)) ∈ lw_all := lw_g (lw_at lw_m4 146 rfl) rfl
theorem q910 : (Jvm.Cond.selects "ShareStreams$Bench" ({ cls := "ShareStreams$Bench", name := "errors", desc := "()[I" } : Jvm.MethodName) ({ cls := "ShareStreams$Bench", name := "errors", desc := "()[I" } : Jvm.MethodName)) ∈ lw_all := lw_g (lw_at lw_m4 147 rfl) rfl
theorem q911 : (Jvm.Cond.code ({ cls := "ShareStreams$Bench", name := "errors", desc := "()[I" } : Jvm.MethodName) prog_2_method_9_code (6 : Nat) (Option.some (Jvm.ClassFile.FieldType.array Jvm.ClassFile.FieldType.int))) ∈ lw_all := lw_g (lw_at lw_m4 148 rfl) rfl
theorem q912 : (Jvm.Cond.interfaceEntry "ShareStreams$Bench" (82 : Nat)) ∈ lw_tbl := lw_at lw_m4 149 rfl
theorem q913 : (Jvm.Cond.methodLink "ShareStreams$Bench" (82 : Nat) ({ cls := "java/util/List", name := "isEmpty", desc := "()Z" } : Jvm.MethodName)) ∈ lw_all := lw_g (lw_at lw_m4 150 rfl) rfl
theorem q921 : (Jvm.Cond.instanceMethod ({ cls := "ShareStreams$Bench", name := "deepest", desc := "()I" } : Jvm.MethodName)) ∈ lw_all := lw_g (lw_at lw_m4 158 rfl) rfl
theorem q922 : (Jvm.Cond.selects "ShareStreams$Bench" ({ cls := "ShareStreams$Bench", name := "deepest", desc := "()I" } : Jvm.MethodName) ({ cls := "ShareStreams$Bench", name := "deepest", desc := "()I" } : Jvm.MethodName)) ∈ lw_all := lw_g (lw_at lw_m4 159 rfl) rfl
theorem q923 : (Jvm.Cond.code ({ cls := "ShareStreams$Bench", name := "deepest", desc := "()I" } : Jvm.MethodName) prog_2_method_12_code (4 : Nat) (Option.some Jvm.ClassFile.FieldType.int)) ∈ lw_all := lw_g (lw_at lw_m4 160 rfl) rfl
theorem q924 : (Jvm.Cond.methodLink "ShareStreams$Bench" (98 : Nat) ({ cls := "ShareStreams$Bench", name := "depths", desc := "()[I" } : Jvm.MethodName)) ∈ lw_all := lw_g (lw_at lw_m4 161 rfl) rfl
theorem q1236 : (Jvm.Cond.castable "ShareStreams$Bench" "java/lang/Object") ∈ lw_tbl := lw_at lw_m5 233 rfl
theorem in_X1 : ∀ w ∈ wsX10, w ∈ lw_all := lw_in wsX10 [111, 113] (by decide +kernel) (by decide +kernel)
/-! ShareStreams$Line -/
set_option maxRecDepth 100000
def RX3 : String := "ShareStreams$Line"
abbrev cX3_of : ByteArray := prog_3_method_7_code
def yX3_of : MethodName := ⟨RX3, "of", "(I[I)LShareStreams$Line;"⟩
def dkwX3_of_0 : List UInt8 := [187, 0, 23, 89, 26, 43, 183, 0, 25, 176]
abbrev dktX3_of_0 : List UInt8 := dkwX3_of_0 ++ []
theorem dksX3_of_0 : cX3_of.data.toList.drop 0 = dktX3_of_0 := by decide +kernel
theorem dX3_of_0 : decode cX3_of 0 = .ok (.new 23, 3) := dk_187 0 23 (dk_at dksX3_of_0 0 rfl rfl)
theorem dX3_of_3 : decode cX3_of 3 = .ok (.dup, 1) := dk_89 (dk_at dksX3_of_0 3 rfl rfl)
theorem dX3_of_4 : decode cX3_of 4 = .ok (.iload_n 0, 1) := dk_26 (dk_at dksX3_of_0 4 rfl rfl)
theorem dX3_of_5 : decode cX3_of 5 = .ok (.aload_n 1, 1) := dk_43 (dk_at dksX3_of_0 5 rfl rfl)
theorem dX3_of_6 : decode cX3_of 6 = .ok (.invokespecial 25, 3) := dk_183 0 25 (dk_at dksX3_of_0 6 rfl rfl)
theorem dX3_of_9 : decode cX3_of 9 = .ok (.areturn, 1) := dk_176 (dk_at dksX3_of_0 9 rfl rfl)
abbrev cX3_isBehind : ByteArray := prog_3_method_4_code
def yX3_isBehind : MethodName := ⟨RX3, "isBehind", "(I)Z"⟩
def dkwX3_isBehind_1 : List UInt8 := [27, 161, 0, 5, 3, 172, 132, 2, 1, 167, 255, 225, 4, 172]
abbrev dktX3_isBehind_1 : List UInt8 := dkwX3_isBehind_1 ++ []
def dkwX3_isBehind_0 : List UInt8 := [3, 61, 28, 6, 162, 0, 32, 42, 28, 185, 0, 9, 2, 0, 153, 0, 16, 42, 28, 185, 0, 13, 2, 0]
abbrev dktX3_isBehind_0 : List UInt8 := dkwX3_isBehind_0 ++ dktX3_isBehind_1
theorem dksX3_isBehind_0 : cX3_isBehind.data.toList.drop 0 = dktX3_isBehind_0 := by decide +kernel
theorem dksX3_isBehind_1 : cX3_isBehind.data.toList.drop 24 = dktX3_isBehind_1 := dk_seg dksX3_isBehind_0 24 rfl rfl
theorem dX3_isBehind_0 : decode cX3_isBehind 0 = .ok (.iconst 0, 1) := dk_3 (dk_at dksX3_isBehind_0 0 rfl rfl)
theorem dX3_isBehind_1 : decode cX3_isBehind 1 = .ok (.istore_n 2, 1) := dk_61 (dk_at dksX3_isBehind_0 1 rfl rfl)
theorem dX3_isBehind_2 : decode cX3_isBehind 2 = .ok (.iload_n 2, 1) := dk_28 (dk_at dksX3_isBehind_0 2 rfl rfl)
theorem dX3_isBehind_3 : decode cX3_isBehind 3 = .ok (.iconst 3, 1) := dk_6 (dk_at dksX3_isBehind_0 3 rfl rfl)
theorem dX3_isBehind_4 : decode cX3_isBehind 4 = .ok (.if_icmp .ge 32, 3) := dk_162 0 32 (dk_at dksX3_isBehind_0 4 rfl rfl)
theorem dX3_isBehind_7 : decode cX3_isBehind 7 = .ok (.aload_n 0, 1) := dk_42 (dk_at dksX3_isBehind_0 7 rfl rfl)
theorem dX3_isBehind_8 : decode cX3_isBehind 8 = .ok (.iload_n 2, 1) := dk_28 (dk_at dksX3_isBehind_0 8 rfl rfl)
theorem dX3_isBehind_9 : decode cX3_isBehind 9 = .ok (.invokeinterface 9 2, 5) := by decide +kernel
theorem dX3_isBehind_14 : decode cX3_isBehind 14 = .ok (.ifCond .eq 16, 3) := dk_153 0 16 (dk_at dksX3_isBehind_0 14 rfl rfl)
theorem dX3_isBehind_17 : decode cX3_isBehind 17 = .ok (.aload_n 0, 1) := dk_42 (dk_at dksX3_isBehind_0 17 rfl rfl)
theorem dX3_isBehind_18 : decode cX3_isBehind 18 = .ok (.iload_n 2, 1) := dk_28 (dk_at dksX3_isBehind_0 18 rfl rfl)
theorem dX3_isBehind_19 : decode cX3_isBehind 19 = .ok (.invokeinterface 13 2, 5) := by decide +kernel
theorem dX3_isBehind_24 : decode cX3_isBehind 24 = .ok (.iload_n 1, 1) := dk_27 (dk_at dksX3_isBehind_1 0 rfl rfl)
theorem dX3_isBehind_25 : decode cX3_isBehind 25 = .ok (.if_icmp .lt 5, 3) := dk_161 0 5 (dk_at dksX3_isBehind_1 1 rfl rfl)
theorem dX3_isBehind_28 : decode cX3_isBehind 28 = .ok (.iconst 0, 1) := dk_3 (dk_at dksX3_isBehind_1 4 rfl rfl)
theorem dX3_isBehind_29 : decode cX3_isBehind 29 = .ok (.ireturn, 1) := dk_172 (dk_at dksX3_isBehind_1 5 rfl rfl)
theorem dX3_isBehind_30 : decode cX3_isBehind 30 = .ok (.iinc 2 1, 3) := dk_132 2 1 (dk_at dksX3_isBehind_1 6 rfl rfl)
theorem dX3_isBehind_33 : decode cX3_isBehind 33 = .ok (.goto (-31), 3) := dk_167 255 225 (dk_at dksX3_isBehind_1 9 rfl rfl)
theorem dX3_isBehind_36 : decode cX3_isBehind 36 = .ok (.iconst 1, 1) := dk_4 (dk_at dksX3_isBehind_1 12 rfl rfl)
theorem dX3_isBehind_37 : decode cX3_isBehind 37 = .ok (.ireturn, 1) := dk_172 (dk_at dksX3_isBehind_1 13 rfl rfl)
abbrev cX3_isLine : ByteArray := prog_3_method_3_code
def yX3_isLine : MethodName := ⟨RX3, "isLine", "(I)Z"⟩
def dkwX3_isLine_3 : List UInt8 := [162, 0, 7, 4, 167, 0, 4, 3, 172]
abbrev dktX3_isLine_3 : List UInt8 := dkwX3_isLine_3 ++ []
def dkwX3_isLine_2 : List UInt8 := [3, 167, 0, 29, 4, 167, 0, 25, 27, 154, 0, 7, 4, 167, 0, 17, 3, 167, 0, 13, 27, 5]
abbrev dktX3_isLine_2 : List UInt8 := dkwX3_isLine_2 ++ dktX3_isLine_3
def dkwX3_isLine_1 : List UInt8 := [170, 0, 0, 0, 0, 62, 0, 0, 0, 0, 0, 0, 0, 6, 0, 0, 0, 42, 0, 0, 0, 62, 0, 0, 0, 62, 0, 0, 0, 62, 0, 0, 0, 46, 0, 0, 0, 50, 0, 0, 0, 50]
abbrev dktX3_isLine_1 : List UInt8 := dkwX3_isLine_1 ++ dktX3_isLine_2
def dkwX3_isLine_0 : List UInt8 := [42, 185, 0, 3, 1, 0]
abbrev dktX3_isLine_0 : List UInt8 := dkwX3_isLine_0 ++ dktX3_isLine_1
theorem dksX3_isLine_0 : cX3_isLine.data.toList.drop 0 = dktX3_isLine_0 := by decide +kernel
theorem dksX3_isLine_1 : cX3_isLine.data.toList.drop 6 = dktX3_isLine_1 := dk_seg dksX3_isLine_0 6 rfl rfl
theorem dksX3_isLine_2 : cX3_isLine.data.toList.drop 48 = dktX3_isLine_2 := dk_seg dksX3_isLine_1 42 rfl rfl
theorem dksX3_isLine_3 : cX3_isLine.data.toList.drop 70 = dktX3_isLine_3 := dk_seg dksX3_isLine_2 22 rfl rfl
theorem dX3_isLine_0 : decode cX3_isLine 0 = .ok (.aload_n 0, 1) := dk_42 (dk_at dksX3_isLine_0 0 rfl rfl)
theorem dX3_isLine_1 : decode cX3_isLine 1 = .ok (.invokeinterface 3 1, 5) := by decide +kernel
theorem dX3_isLine_6 : decode cX3_isLine 6 = .ok (.tableswitch 62 0 6 #[42, 62, 62, 62, 46, 50, 50], 42) := by decide +kernel
theorem dX3_isLine_48 : decode cX3_isLine 48 = .ok (.iconst 0, 1) := dk_3 (dk_at dksX3_isLine_2 0 rfl rfl)
theorem dX3_isLine_49 : decode cX3_isLine 49 = .ok (.goto 29, 3) := dk_167 0 29 (dk_at dksX3_isLine_2 1 rfl rfl)
theorem dX3_isLine_52 : decode cX3_isLine 52 = .ok (.iconst 1, 1) := dk_4 (dk_at dksX3_isLine_2 4 rfl rfl)
theorem dX3_isLine_53 : decode cX3_isLine 53 = .ok (.goto 25, 3) := dk_167 0 25 (dk_at dksX3_isLine_2 5 rfl rfl)
theorem dX3_isLine_56 : decode cX3_isLine 56 = .ok (.iload_n 1, 1) := dk_27 (dk_at dksX3_isLine_2 8 rfl rfl)
theorem dX3_isLine_57 : decode cX3_isLine 57 = .ok (.ifCond .ne 7, 3) := dk_154 0 7 (dk_at dksX3_isLine_2 9 rfl rfl)
theorem dX3_isLine_60 : decode cX3_isLine 60 = .ok (.iconst 1, 1) := dk_4 (dk_at dksX3_isLine_2 12 rfl rfl)
theorem dX3_isLine_61 : decode cX3_isLine 61 = .ok (.goto 17, 3) := dk_167 0 17 (dk_at dksX3_isLine_2 13 rfl rfl)
theorem dX3_isLine_64 : decode cX3_isLine 64 = .ok (.iconst 0, 1) := dk_3 (dk_at dksX3_isLine_2 16 rfl rfl)
theorem dX3_isLine_65 : decode cX3_isLine 65 = .ok (.goto 13, 3) := dk_167 0 13 (dk_at dksX3_isLine_2 17 rfl rfl)
theorem dX3_isLine_68 : decode cX3_isLine 68 = .ok (.iload_n 1, 1) := dk_27 (dk_at dksX3_isLine_2 20 rfl rfl)
theorem dX3_isLine_69 : decode cX3_isLine 69 = .ok (.iconst 2, 1) := dk_5 (dk_at dksX3_isLine_2 21 rfl rfl)
theorem dX3_isLine_70 : decode cX3_isLine 70 = .ok (.if_icmp .ge 7, 3) := dk_162 0 7 (dk_at dksX3_isLine_3 0 rfl rfl)
theorem dX3_isLine_73 : decode cX3_isLine 73 = .ok (.iconst 1, 1) := dk_4 (dk_at dksX3_isLine_3 3 rfl rfl)
theorem dX3_isLine_74 : decode cX3_isLine 74 = .ok (.goto 4, 3) := dk_167 0 4 (dk_at dksX3_isLine_3 4 rfl rfl)
theorem dX3_isLine_77 : decode cX3_isLine 77 = .ok (.iconst 0, 1) := dk_3 (dk_at dksX3_isLine_3 7 rfl rfl)
theorem dX3_isLine_78 : decode cX3_isLine 78 = .ok (.ireturn, 1) := dk_172 (dk_at dksX3_isLine_3 8 rfl rfl)
abbrev cX3_bit : ByteArray := prog_3_method_5_code
def yX3_bit : MethodName := ⟨RX3, "bit", "(III)I"⟩
def dkwX3_bit_3 : List UInt8 := [167, 0, 14, 28, 167, 0, 10, 4, 27, 100, 167, 0, 4, 27, 172]
abbrev dktX3_bit_3 : List UInt8 := dkwX3_bit_3 ++ []
def dkwX3_bit_2 : List UInt8 := [27, 28, 126, 167, 0, 35, 27, 28, 128, 167, 0, 29, 27, 28, 130, 167, 0, 23, 29, 4, 160, 0, 7, 27]
abbrev dktX3_bit_2 : List UInt8 := dkwX3_bit_2 ++ dktX3_bit_3
def dkwX3_bit_1 : List UInt8 := [170, 0, 0, 0, 0, 71, 0, 0, 0, 1, 0, 0, 0, 5, 0, 0, 0, 34, 0, 0, 0, 40, 0, 0, 0, 46, 0, 0, 0, 52, 0, 0, 0, 65]
abbrev dktX3_bit_1 : List UInt8 := dkwX3_bit_1 ++ dktX3_bit_2
def dkwX3_bit_0 : List UInt8 := [42, 185, 0, 3, 1, 0]
abbrev dktX3_bit_0 : List UInt8 := dkwX3_bit_0 ++ dktX3_bit_1
theorem dksX3_bit_0 : cX3_bit.data.toList.drop 0 = dktX3_bit_0 := by decide +kernel
theorem dksX3_bit_1 : cX3_bit.data.toList.drop 6 = dktX3_bit_1 := dk_seg dksX3_bit_0 6 rfl rfl
theorem dksX3_bit_2 : cX3_bit.data.toList.drop 40 = dktX3_bit_2 := dk_seg dksX3_bit_1 34 rfl rfl
theorem dksX3_bit_3 : cX3_bit.data.toList.drop 64 = dktX3_bit_3 := dk_seg dksX3_bit_2 24 rfl rfl
theorem dX3_bit_0 : decode cX3_bit 0 = .ok (.aload_n 0, 1) := dk_42 (dk_at dksX3_bit_0 0 rfl rfl)
theorem dX3_bit_1 : decode cX3_bit 1 = .ok (.invokeinterface 3 1, 5) := by decide +kernel
theorem dX3_bit_6 : decode cX3_bit 6 = .ok (.tableswitch 71 1 5 #[34, 40, 46, 52, 65], 34) := by decide +kernel
theorem dX3_bit_40 : decode cX3_bit 40 = .ok (.iload_n 1, 1) := dk_27 (dk_at dksX3_bit_2 0 rfl rfl)
theorem dX3_bit_41 : decode cX3_bit 41 = .ok (.iload_n 2, 1) := dk_28 (dk_at dksX3_bit_2 1 rfl rfl)
theorem dX3_bit_42 : decode cX3_bit 42 = .ok (.iand, 1) := dk_126 (dk_at dksX3_bit_2 2 rfl rfl)
theorem dX3_bit_43 : decode cX3_bit 43 = .ok (.goto 35, 3) := dk_167 0 35 (dk_at dksX3_bit_2 3 rfl rfl)
theorem dX3_bit_46 : decode cX3_bit 46 = .ok (.iload_n 1, 1) := dk_27 (dk_at dksX3_bit_2 6 rfl rfl)
theorem dX3_bit_47 : decode cX3_bit 47 = .ok (.iload_n 2, 1) := dk_28 (dk_at dksX3_bit_2 7 rfl rfl)
theorem dX3_bit_48 : decode cX3_bit 48 = .ok (.ior, 1) := dk_128 (dk_at dksX3_bit_2 8 rfl rfl)
theorem dX3_bit_49 : decode cX3_bit 49 = .ok (.goto 29, 3) := dk_167 0 29 (dk_at dksX3_bit_2 9 rfl rfl)
theorem dX3_bit_52 : decode cX3_bit 52 = .ok (.iload_n 1, 1) := dk_27 (dk_at dksX3_bit_2 12 rfl rfl)
theorem dX3_bit_53 : decode cX3_bit 53 = .ok (.iload_n 2, 1) := dk_28 (dk_at dksX3_bit_2 13 rfl rfl)
theorem dX3_bit_54 : decode cX3_bit 54 = .ok (.ixor, 1) := dk_130 (dk_at dksX3_bit_2 14 rfl rfl)
theorem dX3_bit_55 : decode cX3_bit 55 = .ok (.goto 23, 3) := dk_167 0 23 (dk_at dksX3_bit_2 15 rfl rfl)
theorem dX3_bit_58 : decode cX3_bit 58 = .ok (.iload_n 3, 1) := dk_29 (dk_at dksX3_bit_2 18 rfl rfl)
theorem dX3_bit_59 : decode cX3_bit 59 = .ok (.iconst 1, 1) := dk_4 (dk_at dksX3_bit_2 19 rfl rfl)
theorem dX3_bit_60 : decode cX3_bit 60 = .ok (.if_icmp .ne 7, 3) := dk_160 0 7 (dk_at dksX3_bit_2 20 rfl rfl)
theorem dX3_bit_63 : decode cX3_bit 63 = .ok (.iload_n 1, 1) := dk_27 (dk_at dksX3_bit_2 23 rfl rfl)
theorem dX3_bit_64 : decode cX3_bit 64 = .ok (.goto 14, 3) := dk_167 0 14 (dk_at dksX3_bit_3 0 rfl rfl)
theorem dX3_bit_67 : decode cX3_bit 67 = .ok (.iload_n 2, 1) := dk_28 (dk_at dksX3_bit_3 3 rfl rfl)
theorem dX3_bit_68 : decode cX3_bit 68 = .ok (.goto 10, 3) := dk_167 0 10 (dk_at dksX3_bit_3 4 rfl rfl)
theorem dX3_bit_71 : decode cX3_bit 71 = .ok (.iconst 1, 1) := dk_4 (dk_at dksX3_bit_3 7 rfl rfl)
theorem dX3_bit_72 : decode cX3_bit 72 = .ok (.iload_n 1, 1) := dk_27 (dk_at dksX3_bit_3 8 rfl rfl)
theorem dX3_bit_73 : decode cX3_bit 73 = .ok (.isub, 1) := dk_100 (dk_at dksX3_bit_3 9 rfl rfl)
theorem dX3_bit_74 : decode cX3_bit 74 = .ok (.goto 4, 3) := dk_167 0 4 (dk_at dksX3_bit_3 10 rfl rfl)
theorem dX3_bit_77 : decode cX3_bit 77 = .ok (.iload_n 1, 1) := dk_27 (dk_at dksX3_bit_3 13 rfl rfl)
theorem dX3_bit_78 : decode cX3_bit 78 = .ok (.ireturn, 1) := dk_172 (dk_at dksX3_bit_3 14 rfl rfl)
abbrev cX3_share : ByteArray := prog_3_method_6_code
def yX3_share : MethodName := ⟨RX3, "share", "(JJJ)I"⟩
def dkwX3_share_5 : List UInt8 := [101, 136, 167, 0, 5, 31, 136, 172]
abbrev dktX3_share_5 : List UInt8 := dkwX3_share_5 ++ []
def dkwX3_share_4 : List UInt8 := [22, 5, 105, 33, 20, 0, 17, 22, 5, 101, 105, 97, 20, 0, 17, 109, 136, 167, 0, 14, 20, 0, 17, 31]
abbrev dktX3_share_4 : List UInt8 := dkwX3_share_4 ++ dktX3_share_5
def dkwX3_share_3 : List UInt8 := [97, 22, 7, 101, 136, 167, 0, 49, 31, 33, 97, 20, 0, 21, 22, 7, 105, 101, 136, 167, 0, 35, 31]
abbrev dktX3_share_3 : List UInt8 := dkwX3_share_3 ++ dktX3_share_4
def dkwX3_share_2 : List UInt8 := [42, 3, 185, 0, 13, 2, 0, 133, 20, 0, 19, 105, 136, 167, 0, 65, 22, 7, 136, 167, 0, 59, 31, 33]
abbrev dktX3_share_2 : List UInt8 := dkwX3_share_2 ++ dktX3_share_3
def dkwX3_share_1 : List UInt8 := [170, 0, 0, 0, 113, 0, 0, 0, 0, 0, 0, 0, 5, 0, 0, 0, 37, 0, 0, 0, 53, 0, 0, 0, 59, 0, 0, 0, 69, 0, 0, 0, 83, 0, 0, 0, 104]
abbrev dktX3_share_1 : List UInt8 := dkwX3_share_1 ++ dktX3_share_2
def dkwX3_share_0 : List UInt8 := [31, 33, 105, 20, 0, 17, 109, 55, 7, 42, 185, 0, 3, 1, 0]
abbrev dktX3_share_0 : List UInt8 := dkwX3_share_0 ++ dktX3_share_1
theorem dksX3_share_0 : cX3_share.data.toList.drop 0 = dktX3_share_0 := by decide +kernel
theorem dksX3_share_1 : cX3_share.data.toList.drop 15 = dktX3_share_1 := dk_seg dksX3_share_0 15 rfl rfl
theorem dksX3_share_2 : cX3_share.data.toList.drop 52 = dktX3_share_2 := dk_seg dksX3_share_1 37 rfl rfl
theorem dksX3_share_3 : cX3_share.data.toList.drop 76 = dktX3_share_3 := dk_seg dksX3_share_2 24 rfl rfl
theorem dksX3_share_4 : cX3_share.data.toList.drop 99 = dktX3_share_4 := dk_seg dksX3_share_3 23 rfl rfl
theorem dksX3_share_5 : cX3_share.data.toList.drop 123 = dktX3_share_5 := dk_seg dksX3_share_4 24 rfl rfl
theorem dX3_share_0 : decode cX3_share 0 = .ok (.lload_n 1, 1) := dk_31 (dk_at dksX3_share_0 0 rfl rfl)
theorem dX3_share_1 : decode cX3_share 1 = .ok (.lload_n 3, 1) := dk_33 (dk_at dksX3_share_0 1 rfl rfl)
theorem dX3_share_2 : decode cX3_share 2 = .ok (.lmul, 1) := dk_105 (dk_at dksX3_share_0 2 rfl rfl)
theorem dX3_share_3 : decode cX3_share 3 = .ok (.ldc2_w 17, 3) := dk_20 0 17 (dk_at dksX3_share_0 3 rfl rfl)
theorem dX3_share_6 : decode cX3_share 6 = .ok (.ldiv, 1) := dk_109 (dk_at dksX3_share_0 6 rfl rfl)
theorem dX3_share_7 : decode cX3_share 7 = .ok (.lstore 7, 2) := dk_55 7 (dk_at dksX3_share_0 7 rfl rfl)
theorem dX3_share_9 : decode cX3_share 9 = .ok (.aload_n 0, 1) := dk_42 (dk_at dksX3_share_0 9 rfl rfl)
theorem dX3_share_10 : decode cX3_share 10 = .ok (.invokeinterface 3 1, 5) := by decide +kernel
theorem dX3_share_15 : decode cX3_share 15 = .ok (.tableswitch 113 0 5 #[37, 53, 59, 69, 83, 104], 37) := by decide +kernel
theorem dX3_share_52 : decode cX3_share 52 = .ok (.aload_n 0, 1) := dk_42 (dk_at dksX3_share_2 0 rfl rfl)
theorem dX3_share_53 : decode cX3_share 53 = .ok (.iconst 0, 1) := dk_3 (dk_at dksX3_share_2 1 rfl rfl)
theorem dX3_share_54 : decode cX3_share 54 = .ok (.invokeinterface 13 2, 5) := by decide +kernel
theorem dX3_share_59 : decode cX3_share 59 = .ok (.i2l, 1) := dk_133 (dk_at dksX3_share_2 7 rfl rfl)
theorem dX3_share_60 : decode cX3_share 60 = .ok (.ldc2_w 19, 3) := dk_20 0 19 (dk_at dksX3_share_2 8 rfl rfl)
theorem dX3_share_63 : decode cX3_share 63 = .ok (.lmul, 1) := dk_105 (dk_at dksX3_share_2 11 rfl rfl)
theorem dX3_share_64 : decode cX3_share 64 = .ok (.l2i, 1) := dk_136 (dk_at dksX3_share_2 12 rfl rfl)
theorem dX3_share_65 : decode cX3_share 65 = .ok (.goto 65, 3) := dk_167 0 65 (dk_at dksX3_share_2 13 rfl rfl)
theorem dX3_share_68 : decode cX3_share 68 = .ok (.lload 7, 2) := dk_22 7 (dk_at dksX3_share_2 16 rfl rfl)
theorem dX3_share_70 : decode cX3_share 70 = .ok (.l2i, 1) := dk_136 (dk_at dksX3_share_2 18 rfl rfl)
theorem dX3_share_71 : decode cX3_share 71 = .ok (.goto 59, 3) := dk_167 0 59 (dk_at dksX3_share_2 19 rfl rfl)
theorem dX3_share_74 : decode cX3_share 74 = .ok (.lload_n 1, 1) := dk_31 (dk_at dksX3_share_2 22 rfl rfl)
theorem dX3_share_75 : decode cX3_share 75 = .ok (.lload_n 3, 1) := dk_33 (dk_at dksX3_share_2 23 rfl rfl)
theorem dX3_share_76 : decode cX3_share 76 = .ok (.ladd, 1) := dk_97 (dk_at dksX3_share_3 0 rfl rfl)
theorem dX3_share_77 : decode cX3_share 77 = .ok (.lload 7, 2) := dk_22 7 (dk_at dksX3_share_3 1 rfl rfl)
theorem dX3_share_79 : decode cX3_share 79 = .ok (.lsub, 1) := dk_101 (dk_at dksX3_share_3 3 rfl rfl)
theorem dX3_share_80 : decode cX3_share 80 = .ok (.l2i, 1) := dk_136 (dk_at dksX3_share_3 4 rfl rfl)
theorem dX3_share_81 : decode cX3_share 81 = .ok (.goto 49, 3) := dk_167 0 49 (dk_at dksX3_share_3 5 rfl rfl)
theorem dX3_share_84 : decode cX3_share 84 = .ok (.lload_n 1, 1) := dk_31 (dk_at dksX3_share_3 8 rfl rfl)
theorem dX3_share_85 : decode cX3_share 85 = .ok (.lload_n 3, 1) := dk_33 (dk_at dksX3_share_3 9 rfl rfl)
theorem dX3_share_86 : decode cX3_share 86 = .ok (.ladd, 1) := dk_97 (dk_at dksX3_share_3 10 rfl rfl)
theorem dX3_share_87 : decode cX3_share 87 = .ok (.ldc2_w 21, 3) := dk_20 0 21 (dk_at dksX3_share_3 11 rfl rfl)
theorem dX3_share_90 : decode cX3_share 90 = .ok (.lload 7, 2) := dk_22 7 (dk_at dksX3_share_3 14 rfl rfl)
theorem dX3_share_92 : decode cX3_share 92 = .ok (.lmul, 1) := dk_105 (dk_at dksX3_share_3 16 rfl rfl)
theorem dX3_share_93 : decode cX3_share 93 = .ok (.lsub, 1) := dk_101 (dk_at dksX3_share_3 17 rfl rfl)
theorem dX3_share_94 : decode cX3_share 94 = .ok (.l2i, 1) := dk_136 (dk_at dksX3_share_3 18 rfl rfl)
theorem dX3_share_95 : decode cX3_share 95 = .ok (.goto 35, 3) := dk_167 0 35 (dk_at dksX3_share_3 19 rfl rfl)
theorem dX3_share_98 : decode cX3_share 98 = .ok (.lload_n 1, 1) := dk_31 (dk_at dksX3_share_3 22 rfl rfl)
theorem dX3_share_99 : decode cX3_share 99 = .ok (.lload 5, 2) := dk_22 5 (dk_at dksX3_share_4 0 rfl rfl)
theorem dX3_share_101 : decode cX3_share 101 = .ok (.lmul, 1) := dk_105 (dk_at dksX3_share_4 2 rfl rfl)
theorem dX3_share_102 : decode cX3_share 102 = .ok (.lload_n 3, 1) := dk_33 (dk_at dksX3_share_4 3 rfl rfl)
theorem dX3_share_103 : decode cX3_share 103 = .ok (.ldc2_w 17, 3) := dk_20 0 17 (dk_at dksX3_share_4 4 rfl rfl)
theorem dX3_share_106 : decode cX3_share 106 = .ok (.lload 5, 2) := dk_22 5 (dk_at dksX3_share_4 7 rfl rfl)
theorem dX3_share_108 : decode cX3_share 108 = .ok (.lsub, 1) := dk_101 (dk_at dksX3_share_4 9 rfl rfl)
theorem dX3_share_109 : decode cX3_share 109 = .ok (.lmul, 1) := dk_105 (dk_at dksX3_share_4 10 rfl rfl)
theorem dX3_share_110 : decode cX3_share 110 = .ok (.ladd, 1) := dk_97 (dk_at dksX3_share_4 11 rfl rfl)
theorem dX3_share_111 : decode cX3_share 111 = .ok (.ldc2_w 17, 3) := dk_20 0 17 (dk_at dksX3_share_4 12 rfl rfl)
theorem dX3_share_114 : decode cX3_share 114 = .ok (.ldiv, 1) := dk_109 (dk_at dksX3_share_4 15 rfl rfl)
theorem dX3_share_115 : decode cX3_share 115 = .ok (.l2i, 1) := dk_136 (dk_at dksX3_share_4 16 rfl rfl)
theorem dX3_share_116 : decode cX3_share 116 = .ok (.goto 14, 3) := dk_167 0 14 (dk_at dksX3_share_4 17 rfl rfl)
theorem dX3_share_119 : decode cX3_share 119 = .ok (.ldc2_w 17, 3) := dk_20 0 17 (dk_at dksX3_share_4 20 rfl rfl)
theorem dX3_share_122 : decode cX3_share 122 = .ok (.lload_n 1, 1) := dk_31 (dk_at dksX3_share_4 23 rfl rfl)
theorem dX3_share_123 : decode cX3_share 123 = .ok (.lsub, 1) := dk_101 (dk_at dksX3_share_5 0 rfl rfl)
theorem dX3_share_124 : decode cX3_share 124 = .ok (.l2i, 1) := dk_136 (dk_at dksX3_share_5 1 rfl rfl)
theorem dX3_share_125 : decode cX3_share 125 = .ok (.goto 5, 3) := dk_167 0 5 (dk_at dksX3_share_5 2 rfl rfl)
theorem dX3_share_128 : decode cX3_share 128 = .ok (.lload_n 1, 1) := dk_31 (dk_at dksX3_share_5 5 rfl rfl)
theorem dX3_share_129 : decode cX3_share 129 = .ok (.l2i, 1) := dk_136 (dk_at dksX3_share_5 6 rfl rfl)
theorem dX3_share_130 : decode cX3_share 130 = .ok (.ireturn, 1) := dk_172 (dk_at dksX3_share_5 7 rfl rfl)
theorem q54 : (Jvm.Cond.initialized "ShareStreams$Line") ∈ lw_all := lw_g (lw_at lw_m1 11 rfl) rfl
theorem q171 : (Jvm.Cond.static ({ cls := "ShareStreams$Line", name := "of", desc := "(I[I)LShareStreams$Line;" } : Jvm.MethodName)) ∈ lw_all := lw_g (lw_at lw_m1 128 rfl) rfl
theorem q172 : (Jvm.Cond.code ({ cls := "ShareStreams$Line", name := "of", desc := "(I[I)LShareStreams$Line;" } : Jvm.MethodName) prog_3_method_7_code (2 : Nat) (Option.some (Jvm.ClassFile.FieldType.object "ShareStreams$Line"))) ∈ lw_all := lw_g (lw_at lw_m1 129 rfl) rfl
theorem q173 : (Jvm.Cond.classLink "ShareStreams$Line" (23 : Nat) "ShareStreams$Plain") ∈ lw_all := lw_g (lw_at lw_m1 130 rfl) rfl
theorem q175 : (Jvm.Cond.methodLink "ShareStreams$Line" (25 : Nat) ({ cls := "ShareStreams$Plain", name := "<init>", desc := "(I[I)V" } : Jvm.MethodName)) ∈ lw_all := lw_g (lw_at lw_m1 132 rfl) rfl
theorem q340 : (Jvm.Cond.interfaceMethod "ShareStreams$Line" "ShareStreams$Line" "kind" "()I") ∈ lw_tbl := lw_at lw_m2 57 rfl
theorem q341 : (Jvm.Cond.declares ({ cls := "ShareStreams$Line", name := "kind", desc := "()I" } : Jvm.MethodName)) ∈ lw_tbl := lw_at lw_m2 58 rfl
theorem q351 : (Jvm.Cond.interfaceMethod "ShareStreams$Line" "ShareStreams$Line" "number" "(I)I") ∈ lw_tbl := lw_at lw_m2 68 rfl
theorem q352 : (Jvm.Cond.declares ({ cls := "ShareStreams$Line", name := "number", desc := "(I)I" } : Jvm.MethodName)) ∈ lw_tbl := lw_at lw_m2 69 rfl
theorem q592 : (Jvm.Cond.interfaceMethod "ShareStreams$Line" "ShareStreams$Line" "isBehind" "(I)Z") ∈ lw_tbl := lw_at lw_m3 69 rfl
theorem q593 : (Jvm.Cond.declares ({ cls := "ShareStreams$Line", name := "isBehind", desc := "(I)Z" } : Jvm.MethodName)) ∈ lw_tbl := lw_at lw_m3 70 rfl
theorem q595 : (Jvm.Cond.instanceMethod ({ cls := "ShareStreams$Line", name := "isBehind", desc := "(I)Z" } : Jvm.MethodName)) ∈ lw_all := lw_g (lw_at lw_m3 72 rfl) rfl
theorem q596 : (Jvm.Cond.publicMethod ({ cls := "ShareStreams$Line", name := "isBehind", desc := "(I)Z" } : Jvm.MethodName)) ∈ lw_tbl := lw_at lw_m3 73 rfl
theorem q597 : (Jvm.Cond.code ({ cls := "ShareStreams$Line", name := "isBehind", desc := "(I)Z" } : Jvm.MethodName) prog_3_method_4_code (3 : Nat) (Option.some Jvm.ClassFile.FieldType.boolean)) ∈ lw_all := lw_g (lw_at lw_m3 74 rfl) rfl
theorem q598 : (Jvm.Cond.interfaceEntry "ShareStreams$Line" (9 : Nat)) ∈ lw_tbl := lw_at lw_m3 75 rfl
theorem q599 : (Jvm.Cond.methodLink "ShareStreams$Line" (9 : Nat) ({ cls := "ShareStreams$Line", name := "isLine", desc := "(I)Z" } : Jvm.MethodName)) ∈ lw_all := lw_g (lw_at lw_m3 76 rfl) rfl
theorem q600 : (Jvm.Cond.interfaceMethod "ShareStreams$Line" "ShareStreams$Line" "isLine" "(I)Z") ∈ lw_tbl := lw_at lw_m3 77 rfl
theorem q601 : (Jvm.Cond.declares ({ cls := "ShareStreams$Line", name := "isLine", desc := "(I)Z" } : Jvm.MethodName)) ∈ lw_tbl := lw_at lw_m3 78 rfl
theorem q603 : (Jvm.Cond.instanceMethod ({ cls := "ShareStreams$Line", name := "isLine", desc := "(I)Z" } : Jvm.MethodName)) ∈ lw_all := lw_g (lw_at lw_m3 80 rfl) rfl
theorem q604 : (Jvm.Cond.publicMethod ({ cls := "ShareStreams$Line", name := "isLine", desc := "(I)Z" } : Jvm.MethodName)) ∈ lw_tbl := lw_at lw_m3 81 rfl
theorem q605 : (Jvm.Cond.code ({ cls := "ShareStreams$Line", name := "isLine", desc := "(I)Z" } : Jvm.MethodName) prog_3_method_3_code (2 : Nat) (Option.some Jvm.ClassFile.FieldType.boolean)) ∈ lw_all := lw_g (lw_at lw_m3 82 rfl) rfl
theorem q606 : (Jvm.Cond.interfaceEntry "ShareStreams$Line" (3 : Nat)) ∈ lw_tbl := lw_at lw_m3 83 rfl
theorem q607 : (Jvm.Cond.methodLink "ShareStreams$Line" (3 : Nat) ({ cls := "ShareStreams$Line", name := "kind", desc := "()I" } : Jvm.MethodName)) ∈ lw_all := lw_g (lw_at lw_m3 84 rfl) rfl
theorem q608 : (Jvm.Cond.interfaceEntry "ShareStreams$Line" (13 : Nat)) ∈ lw_tbl := lw_at lw_m3 85 rfl
theorem q609 : (Jvm.Cond.methodLink "ShareStreams$Line" (13 : Nat) ({ cls := "ShareStreams$Line", name := "number", desc := "(I)I" } : Jvm.MethodName)) ∈ lw_all := lw_g (lw_at lw_m3 86 rfl) rfl
theorem q788 : (Jvm.Cond.interfaceMethod "ShareStreams$Line" "ShareStreams$Line" "bit" "(III)I") ∈ lw_tbl := lw_at lw_m4 25 rfl
theorem q789 : (Jvm.Cond.declares ({ cls := "ShareStreams$Line", name := "bit", desc := "(III)I" } : Jvm.MethodName)) ∈ lw_tbl := lw_at lw_m4 26 rfl
theorem q791 : (Jvm.Cond.instanceMethod ({ cls := "ShareStreams$Line", name := "bit", desc := "(III)I" } : Jvm.MethodName)) ∈ lw_all := lw_g (lw_at lw_m4 28 rfl) rfl
theorem q792 : (Jvm.Cond.publicMethod ({ cls := "ShareStreams$Line", name := "bit", desc := "(III)I" } : Jvm.MethodName)) ∈ lw_tbl := lw_at lw_m4 29 rfl
theorem q793 : (Jvm.Cond.code ({ cls := "ShareStreams$Line", name := "bit", desc := "(III)I" } : Jvm.MethodName) prog_3_method_5_code (4 : Nat) (Option.some Jvm.ClassFile.FieldType.int)) ∈ lw_all := lw_g (lw_at lw_m4 30 rfl) rfl
theorem q817 : (Jvm.Cond.interfaceMethod "ShareStreams$Line" "ShareStreams$Line" "share" "(JJJ)I") ∈ lw_tbl := lw_at lw_m4 54 rfl
theorem q818 : (Jvm.Cond.declares ({ cls := "ShareStreams$Line", name := "share", desc := "(JJJ)I" } : Jvm.MethodName)) ∈ lw_tbl := lw_at lw_m4 55 rfl
theorem q820 : (Jvm.Cond.instanceMethod ({ cls := "ShareStreams$Line", name := "share", desc := "(JJJ)I" } : Jvm.MethodName)) ∈ lw_all := lw_g (lw_at lw_m4 57 rfl) rfl
theorem q821 : (Jvm.Cond.publicMethod ({ cls := "ShareStreams$Line", name := "share", desc := "(JJJ)I" } : Jvm.MethodName)) ∈ lw_tbl := lw_at lw_m4 58 rfl
theorem q822 : (Jvm.Cond.code ({ cls := "ShareStreams$Line", name := "share", desc := "(JJJ)I" } : Jvm.MethodName) prog_3_method_6_code (9 : Nat) (Option.some Jvm.ClassFile.FieldType.int)) ∈ lw_all := lw_g (lw_at lw_m4 59 rfl) rfl
theorem q823 : (Jvm.Cond.constantLong "ShareStreams$Line" (17 : Nat) (65536 : Int64)) ∈ lw_all := lw_g (lw_at lw_m4 60 rfl) rfl
theorem q824 : (Jvm.Cond.constantLong "ShareStreams$Line" (19 : Nat) (256 : Int64)) ∈ lw_all := lw_g (lw_at lw_m4 61 rfl) rfl
theorem q825 : (Jvm.Cond.constantLong "ShareStreams$Line" (21 : Nat) (2 : Int64)) ∈ lw_all := lw_g (lw_at lw_m4 62 rfl) rfl
/-! ShareStreams$Plain -/
set_option maxRecDepth 100000
def RX4 : String := "ShareStreams$Plain"
def TX4 : u_T := fun k => match k with
  | 0 => ("ShareStreams$Plain", "kind", "I", true)
  | _ => ("ShareStreams$Plain", "numbers", "[I", true)
def tyX4 : Nat → FieldType := fun k => match k with
  | 0 => .int
  | _ => .array .int
abbrev wsX40 : List Cond := u_ws RX4 TX4 2
theorem nmX4 : ∀ a, a < 2 → ∀ b, b < 2 → a ≠ b → (TX4 a).2.1 ≠ (TX4 b).2.1 := by decide +kernel
theorem tyX4_ok : ∀ k, k < 2 → parseFieldDescriptor (TX4 k).2.2.1 = some (tyX4 k) := by decide +kernel
abbrev cX4_init : ByteArray := prog_4_method_1_code
def yX4_init : MethodName := ⟨RX4, "<init>", "(I[I)V"⟩
def dkwX4_init_0 : List UInt8 := [42, 183, 0, 3, 42, 27, 181, 0, 9, 42, 44, 181, 0, 15, 177]
abbrev dktX4_init_0 : List UInt8 := dkwX4_init_0 ++ []
theorem dksX4_init_0 : cX4_init.data.toList.drop 0 = dktX4_init_0 := by decide +kernel
theorem dX4_init_0 : decode cX4_init 0 = .ok (.aload_n 0, 1) := dk_42 (dk_at dksX4_init_0 0 rfl rfl)
theorem dX4_init_1 : decode cX4_init 1 = .ok (.invokespecial 3, 3) := dk_183 0 3 (dk_at dksX4_init_0 1 rfl rfl)
theorem dX4_init_4 : decode cX4_init 4 = .ok (.aload_n 0, 1) := dk_42 (dk_at dksX4_init_0 4 rfl rfl)
theorem dX4_init_5 : decode cX4_init 5 = .ok (.iload_n 1, 1) := dk_27 (dk_at dksX4_init_0 5 rfl rfl)
theorem dX4_init_6 : decode cX4_init 6 = .ok (.putfield 9, 3) := dk_181 0 9 (dk_at dksX4_init_0 6 rfl rfl)
theorem dX4_init_9 : decode cX4_init 9 = .ok (.aload_n 0, 1) := dk_42 (dk_at dksX4_init_0 9 rfl rfl)
theorem dX4_init_10 : decode cX4_init 10 = .ok (.aload_n 2, 1) := dk_44 (dk_at dksX4_init_0 10 rfl rfl)
theorem dX4_init_11 : decode cX4_init 11 = .ok (.putfield 15, 3) := dk_181 0 15 (dk_at dksX4_init_0 11 rfl rfl)
theorem dX4_init_14 : decode cX4_init 14 = .ok (.return_, 1) := dk_177 (dk_at dksX4_init_0 14 rfl rfl)
abbrev cX4_kind : ByteArray := prog_4_method_2_code
def yX4_kind : MethodName := ⟨RX4, "kind", "()I"⟩
theorem dX4_kind_0 : decode cX4_kind 0 = .ok (.aload_n 0, 1) := by decide +kernel
theorem dX4_kind_1 : decode cX4_kind 1 = .ok (.getfield 9, 3) := by decide +kernel
theorem dX4_kind_4 : decode cX4_kind 4 = .ok (.ireturn, 1) := by decide +kernel
abbrev cX4_number : ByteArray := prog_4_method_3_code
def yX4_number : MethodName := ⟨RX4, "number", "(I)I"⟩
def dkwX4_number_0 : List UInt8 := [27, 42, 180, 0, 15, 190, 162, 0, 12, 42, 180, 0, 15, 27, 46, 167, 0, 5, 18, 19, 172]
abbrev dktX4_number_0 : List UInt8 := dkwX4_number_0 ++ []
theorem dksX4_number_0 : cX4_number.data.toList.drop 0 = dktX4_number_0 := by decide +kernel
theorem dX4_number_0 : decode cX4_number 0 = .ok (.iload_n 1, 1) := dk_27 (dk_at dksX4_number_0 0 rfl rfl)
theorem dX4_number_1 : decode cX4_number 1 = .ok (.aload_n 0, 1) := dk_42 (dk_at dksX4_number_0 1 rfl rfl)
theorem dX4_number_2 : decode cX4_number 2 = .ok (.getfield 15, 3) := dk_180 0 15 (dk_at dksX4_number_0 2 rfl rfl)
theorem dX4_number_5 : decode cX4_number 5 = .ok (.arraylength, 1) := dk_190 (dk_at dksX4_number_0 5 rfl rfl)
theorem dX4_number_6 : decode cX4_number 6 = .ok (.if_icmp .ge 12, 3) := dk_162 0 12 (dk_at dksX4_number_0 6 rfl rfl)
theorem dX4_number_9 : decode cX4_number 9 = .ok (.aload_n 0, 1) := dk_42 (dk_at dksX4_number_0 9 rfl rfl)
theorem dX4_number_10 : decode cX4_number 10 = .ok (.getfield 15, 3) := dk_180 0 15 (dk_at dksX4_number_0 10 rfl rfl)
theorem dX4_number_13 : decode cX4_number 13 = .ok (.iload_n 1, 1) := dk_27 (dk_at dksX4_number_0 13 rfl rfl)
theorem dX4_number_14 : decode cX4_number 14 = .ok (.iaload, 1) := dk_46 (dk_at dksX4_number_0 14 rfl rfl)
theorem dX4_number_15 : decode cX4_number 15 = .ok (.goto 5, 3) := dk_167 0 5 (dk_at dksX4_number_0 15 rfl rfl)
theorem dX4_number_18 : decode cX4_number 18 = .ok (.ldc 19, 2) := dk_18 19 (dk_at dksX4_number_0 18 rfl rfl)
theorem dX4_number_20 : decode cX4_number 20 = .ok (.ireturn, 1) := dk_172 (dk_at dksX4_number_0 20 rfl rfl)
theorem q55 : (Jvm.Cond.initialized "ShareStreams$Plain") ∈ lw_all := lw_g (lw_at lw_m1 12 rfl) rfl
theorem q174 : (Jvm.Cond.instantiable "ShareStreams$Plain" (2 : Nat)) ∈ lw_all := lw_g (lw_at lw_m1 131 rfl) rfl
theorem q176 : (Jvm.Cond.instanceMethod ({ cls := "ShareStreams$Plain", name := "<init>", desc := "(I[I)V" } : Jvm.MethodName)) ∈ lw_all := lw_g (lw_at lw_m1 133 rfl) rfl
theorem q177 : (Jvm.Cond.code ({ cls := "ShareStreams$Plain", name := "<init>", desc := "(I[I)V" } : Jvm.MethodName) prog_4_method_1_code (3 : Nat) (Option.none : Option Jvm.ClassFile.FieldType)) ∈ lw_all := lw_g (lw_at lw_m1 134 rfl) rfl
theorem q178 : (Jvm.Cond.methodLink "ShareStreams$Plain" (3 : Nat) ({ cls := "java/lang/Object", name := "<init>", desc := "()V" } : Jvm.MethodName)) ∈ lw_all := lw_g (lw_at lw_m1 135 rfl) rfl
theorem q179 : (Jvm.Cond.fieldLink "ShareStreams$Plain" (9 : Nat) "ShareStreams$Plain" "kind" "I") ∈ lw_all := lw_g (lw_at lw_m1 136 rfl) rfl
theorem q180 : (Jvm.Cond.fieldLink "ShareStreams$Plain" (15 : Nat) "ShareStreams$Plain" "numbers" "[I") ∈ lw_all := lw_g (lw_at lw_m1 137 rfl) rfl
theorem q181 : (Jvm.Cond.laysFinal "ShareStreams$Plain" "ShareStreams$Plain" "kind" "I") ∈ lw_all := lw_g (lw_at lw_m1 138 rfl) rfl
theorem q182 : (Jvm.Cond.soleField "ShareStreams$Plain" "kind") ∈ lw_all := lw_g (lw_at lw_m1 139 rfl) rfl
theorem q183 : (Jvm.Cond.laysFinal "ShareStreams$Plain" "ShareStreams$Plain" "numbers" "[I") ∈ lw_all := lw_g (lw_at lw_m1 140 rfl) rfl
theorem q184 : (Jvm.Cond.soleField "ShareStreams$Plain" "numbers") ∈ lw_all := lw_g (lw_at lw_m1 141 rfl) rfl
theorem q185 : (Jvm.Cond.superclass "ShareStreams$Plain" "java/lang/Object") ∈ lw_all := lw_g (lw_at lw_m1 142 rfl) rfl
theorem q266 : (Jvm.Cond.selects "ShareStreams$Plain" ({ cls := "java/lang/Object", name := "getClass", desc := "()Ljava/lang/Class;" } : Jvm.MethodName) ({ cls := "java/lang/Object", name := "getClass", desc := "()Ljava/lang/Class;" } : Jvm.MethodName)) ∈ lw_all := lw_g (lw_at lw_m1 223 rfl) rfl
theorem q342 : (Jvm.Cond.castable "ShareStreams$Plain" "ShareStreams$Line") ∈ lw_tbl := lw_at lw_m2 59 rfl
theorem q343 : (Jvm.Cond.selects "ShareStreams$Plain" ({ cls := "ShareStreams$Line", name := "kind", desc := "()I" } : Jvm.MethodName) ({ cls := "ShareStreams$Plain", name := "kind", desc := "()I" } : Jvm.MethodName)) ∈ lw_all := lw_g (lw_at lw_m2 60 rfl) rfl
theorem q344 : (Jvm.Cond.unhidden "ShareStreams$Plain" "kind" "()I") ∈ lw_tbl := lw_at lw_m2 61 rfl
theorem q345 : (Jvm.Cond.instanceMethod ({ cls := "ShareStreams$Plain", name := "kind", desc := "()I" } : Jvm.MethodName)) ∈ lw_all := lw_g (lw_at lw_m2 62 rfl) rfl
theorem q346 : (Jvm.Cond.publicMethod ({ cls := "ShareStreams$Plain", name := "kind", desc := "()I" } : Jvm.MethodName)) ∈ lw_tbl := lw_at lw_m2 63 rfl
theorem q347 : (Jvm.Cond.code ({ cls := "ShareStreams$Plain", name := "kind", desc := "()I" } : Jvm.MethodName) prog_4_method_2_code (1 : Nat) (Option.some Jvm.ClassFile.FieldType.int)) ∈ lw_all := lw_g (lw_at lw_m2 64 rfl) rfl
theorem q353 : (Jvm.Cond.selects "ShareStreams$Plain" ({ cls := "ShareStreams$Line", name := "number", desc := "(I)I" } : Jvm.MethodName) ({ cls := "ShareStreams$Plain", name := "number", desc := "(I)I" } : Jvm.MethodName)) ∈ lw_all := lw_g (lw_at lw_m2 70 rfl) rfl
theorem q354 : (Jvm.Cond.unhidden "ShareStreams$Plain" "number" "(I)I") ∈ lw_tbl := lw_at lw_m2 71 rfl
theorem q355 : (Jvm.Cond.instanceMethod ({ cls := "ShareStreams$Plain", name := "number", desc := "(I)I" } : Jvm.MethodName)) ∈ lw_all := lw_g (lw_at lw_m2 72 rfl) rfl
theorem q356 : (Jvm.Cond.publicMethod ({ cls := "ShareStreams$Plain", name := "number", desc := "(I)I" } : Jvm.MethodName)) ∈ lw_tbl := lw_at lw_m2 73 rfl
theorem q357 : (Jvm.Cond.code ({ cls := "ShareStreams$Plain", name := "number", desc := "(I)I" } : Jvm.MethodName) prog_4_method_3_code (2 : Nat) (Option.some Jvm.ClassFile.FieldType.int)) ∈ lw_all := lw_g (lw_at lw_m2 74 rfl) rfl
theorem q358 : (Jvm.Cond.constant "ShareStreams$Plain" (19 : Nat) (-100000005 : Int32)) ∈ lw_all := lw_g (lw_at lw_m2 75 rfl) rfl
theorem q594 : (Jvm.Cond.unhidden "ShareStreams$Plain" "isBehind" "(I)Z") ∈ lw_tbl := lw_at lw_m3 71 rfl
theorem q602 : (Jvm.Cond.unhidden "ShareStreams$Plain" "isLine" "(I)Z") ∈ lw_tbl := lw_at lw_m3 79 rfl
theorem q790 : (Jvm.Cond.unhidden "ShareStreams$Plain" "bit" "(III)I") ∈ lw_tbl := lw_at lw_m4 27 rfl
theorem q819 : (Jvm.Cond.unhidden "ShareStreams$Plain" "share" "(JJJ)I") ∈ lw_tbl := lw_at lw_m4 56 rfl
theorem q1240 : (Jvm.Cond.castable "ShareStreams$Plain" "java/lang/Object") ∈ lw_tbl := lw_at lw_m5 237 rfl
theorem in_X4 : ∀ w ∈ wsX40, w ∈ lw_all := lw_in wsX40 [181, 183] (by decide +kernel) (by decide +kernel)
/-! ShareStreams$Reader -/
set_option maxRecDepth 100000
def RX5 : String := "ShareStreams$Reader"
def TX5 : u_T := fun k => match k with
  | 0 => ("ShareStreams$Reader", "signs", "Ljava/lang/CharSequence;", true)
  | 1 => ("ShareStreams$Reader", "lines", "Ljava/util/List;", true)
  | _ => ("ShareStreams$Reader", "place", "I", false)
def tyX5 : Nat → FieldType := fun k => match k with
  | 0 => .object "java/lang/CharSequence"
  | 1 => .object "java/util/List"
  | _ => .int
abbrev wsX50 : List Cond := u_ws RX5 TX5 3
theorem nmX5 : ∀ a, a < 3 → ∀ b, b < 3 → a ≠ b → (TX5 a).2.1 ≠ (TX5 b).2.1 := by decide +kernel
theorem tyX5_ok : ∀ k, k < 3 → parseFieldDescriptor (TX5 k).2.2.1 = some (tyX5 k) := by decide +kernel
abbrev cX5_init : ByteArray := prog_5_method_1_code
def yX5_init : MethodName := ⟨RX5, "<init>", "(Ljava/lang/CharSequence;)V"⟩
def dkwX5_init_0 : List UInt8 := [42, 183, 0, 3, 42, 187, 0, 9, 89, 183, 0, 11, 181, 0, 12, 42, 43, 181, 0, 18, 177]
abbrev dktX5_init_0 : List UInt8 := dkwX5_init_0 ++ []
theorem dksX5_init_0 : cX5_init.data.toList.drop 0 = dktX5_init_0 := by decide +kernel
theorem dX5_init_0 : decode cX5_init 0 = .ok (.aload_n 0, 1) := dk_42 (dk_at dksX5_init_0 0 rfl rfl)
theorem dX5_init_1 : decode cX5_init 1 = .ok (.invokespecial 3, 3) := dk_183 0 3 (dk_at dksX5_init_0 1 rfl rfl)
theorem dX5_init_4 : decode cX5_init 4 = .ok (.aload_n 0, 1) := dk_42 (dk_at dksX5_init_0 4 rfl rfl)
theorem dX5_init_5 : decode cX5_init 5 = .ok (.new 9, 3) := dk_187 0 9 (dk_at dksX5_init_0 5 rfl rfl)
theorem dX5_init_8 : decode cX5_init 8 = .ok (.dup, 1) := dk_89 (dk_at dksX5_init_0 8 rfl rfl)
theorem dX5_init_9 : decode cX5_init 9 = .ok (.invokespecial 11, 3) := dk_183 0 11 (dk_at dksX5_init_0 9 rfl rfl)
theorem dX5_init_12 : decode cX5_init 12 = .ok (.putfield 12, 3) := dk_181 0 12 (dk_at dksX5_init_0 12 rfl rfl)
theorem dX5_init_15 : decode cX5_init 15 = .ok (.aload_n 0, 1) := dk_42 (dk_at dksX5_init_0 15 rfl rfl)
theorem dX5_init_16 : decode cX5_init 16 = .ok (.aload_n 1, 1) := dk_43 (dk_at dksX5_init_0 16 rfl rfl)
theorem dX5_init_17 : decode cX5_init 17 = .ok (.putfield 18, 3) := dk_181 0 18 (dk_at dksX5_init_0 17 rfl rfl)
theorem dX5_init_20 : decode cX5_init 20 = .ok (.return_, 1) := dk_177 (dk_at dksX5_init_0 20 rfl rfl)
abbrev cX5_reads : ByteArray := prog_5_method_10_code
def yX5_reads : MethodName := ⟨RX5, "reads", "()Z"⟩
def dkwX5_reads_1 : List UInt8 := [172, 42, 16, 59, 182, 0, 56, 154, 255, 225, 3, 172, 3, 172]
abbrev dktX5_reads_1 : List UInt8 := dkwX5_reads_1 ++ []
def dkwX5_reads_0 : List UInt8 := [42, 182, 0, 110, 153, 0, 32, 42, 180, 0, 22, 42, 180, 0, 18, 185, 0, 26, 1, 0, 160, 0, 5, 4]
abbrev dktX5_reads_0 : List UInt8 := dkwX5_reads_0 ++ dktX5_reads_1
theorem dksX5_reads_0 : cX5_reads.data.toList.drop 0 = dktX5_reads_0 := by decide +kernel
theorem dksX5_reads_1 : cX5_reads.data.toList.drop 24 = dktX5_reads_1 := dk_seg dksX5_reads_0 24 rfl rfl
theorem dX5_reads_0 : decode cX5_reads 0 = .ok (.aload_n 0, 1) := dk_42 (dk_at dksX5_reads_0 0 rfl rfl)
theorem dX5_reads_1 : decode cX5_reads 1 = .ok (.invokevirtual 110, 3) := dk_182 0 110 (dk_at dksX5_reads_0 1 rfl rfl)
theorem dX5_reads_4 : decode cX5_reads 4 = .ok (.ifCond .eq 32, 3) := dk_153 0 32 (dk_at dksX5_reads_0 4 rfl rfl)
theorem dX5_reads_7 : decode cX5_reads 7 = .ok (.aload_n 0, 1) := dk_42 (dk_at dksX5_reads_0 7 rfl rfl)
theorem dX5_reads_8 : decode cX5_reads 8 = .ok (.getfield 22, 3) := dk_180 0 22 (dk_at dksX5_reads_0 8 rfl rfl)
theorem dX5_reads_11 : decode cX5_reads 11 = .ok (.aload_n 0, 1) := dk_42 (dk_at dksX5_reads_0 11 rfl rfl)
theorem dX5_reads_12 : decode cX5_reads 12 = .ok (.getfield 18, 3) := dk_180 0 18 (dk_at dksX5_reads_0 12 rfl rfl)
theorem dX5_reads_15 : decode cX5_reads 15 = .ok (.invokeinterface 26 1, 5) := by decide +kernel
theorem dX5_reads_20 : decode cX5_reads 20 = .ok (.if_icmp .ne 5, 3) := dk_160 0 5 (dk_at dksX5_reads_0 20 rfl rfl)
theorem dX5_reads_23 : decode cX5_reads 23 = .ok (.iconst 1, 1) := dk_4 (dk_at dksX5_reads_0 23 rfl rfl)
theorem dX5_reads_24 : decode cX5_reads 24 = .ok (.ireturn, 1) := dk_172 (dk_at dksX5_reads_1 0 rfl rfl)
theorem dX5_reads_25 : decode cX5_reads 25 = .ok (.aload_n 0, 1) := dk_42 (dk_at dksX5_reads_1 1 rfl rfl)
theorem dX5_reads_26 : decode cX5_reads 26 = .ok (.bipush 59, 2) := dk_16 59 (dk_at dksX5_reads_1 2 rfl rfl)
theorem dX5_reads_28 : decode cX5_reads 28 = .ok (.invokevirtual 56, 3) := dk_182 0 56 (dk_at dksX5_reads_1 4 rfl rfl)
theorem dX5_reads_31 : decode cX5_reads 31 = .ok (.ifCond .ne (-31), 3) := dk_154 255 225 (dk_at dksX5_reads_1 7 rfl rfl)
theorem dX5_reads_34 : decode cX5_reads 34 = .ok (.iconst 0, 1) := dk_3 (dk_at dksX5_reads_1 10 rfl rfl)
theorem dX5_reads_35 : decode cX5_reads 35 = .ok (.ireturn, 1) := dk_172 (dk_at dksX5_reads_1 11 rfl rfl)
theorem dX5_reads_36 : decode cX5_reads 36 = .ok (.iconst 0, 1) := dk_3 (dk_at dksX5_reads_1 12 rfl rfl)
theorem dX5_reads_37 : decode cX5_reads 37 = .ok (.ireturn, 1) := dk_172 (dk_at dksX5_reads_1 13 rfl rfl)
abbrev cX5_line : ByteArray := prog_5_method_8_code
def yX5_line : MethodName := ⟨RX5, "line", "()Z"⟩
def dkwX5_line_17 : List UInt8 := [167, 0, 4, 3, 172]
abbrev dktX5_line_17 : List UInt8 := dkwX5_line_17 ++ []
def dkwX5_line_16 : List UInt8 := [180, 0, 12, 187, 0, 97, 89, 44, 184, 0, 99, 45, 183, 0, 102, 185, 0, 105, 2, 0, 153, 0, 7, 4]
abbrev dktX5_line_16 : List UInt8 := dkwX5_line_16 ++ dktX5_line_17
def dkwX5_line_15 : List UInt8 := [79, 89, 5, 4, 79, 89, 6, 16, 60, 79, 182, 0, 93, 167, 0, 4, 1, 78, 45, 198, 0, 31, 42]
abbrev dktX5_line_15 : List UInt8 := dkwX5_line_15 ++ dktX5_line_16
def dkwX5_line_14 : List UInt8 := [3, 3, 79, 89, 4, 27, 79, 182, 0, 93, 167, 0, 31, 42, 7, 188, 10, 89, 3, 3, 79, 89, 4, 27]
abbrev dktX5_line_14 : List UInt8 := dkwX5_line_14 ++ dktX5_line_15
def dkwX5_line_13 : List UInt8 := [79, 89, 6, 27, 79, 89, 7, 3, 79, 89, 8, 27, 79, 182, 0, 93, 167, 0, 49, 42, 5, 188, 10, 89]
abbrev dktX5_line_13 : List UInt8 := dkwX5_line_13 ++ dktX5_line_14
def dkwX5_line_12 : List UInt8 := [27, 79, 182, 0, 93, 167, 0, 84, 42, 16, 6, 188, 10, 89, 3, 3, 79, 89, 4, 27, 79, 89, 5, 3]
abbrev dktX5_line_12 : List UInt8 := dkwX5_line_12 ++ dktX5_line_13
def dkwX5_line_11 : List UInt8 := [182, 0, 93, 167, 0, 110, 42, 7, 188, 10, 89, 3, 3, 79, 89, 4, 27, 79, 89, 5, 3, 79, 89, 6]
abbrev dktX5_line_11 : List UInt8 := dkwX5_line_11 ++ dktX5_line_12
def dkwX5_line_10 : List UInt8 := [42, 7, 188, 10, 89, 3, 3, 79, 89, 4, 17, 1, 0, 79, 89, 5, 4, 79, 89, 6, 17, 0, 255, 79]
abbrev dktX5_line_10 : List UInt8 := dkwX5_line_10 ++ dktX5_line_11
def dkwX5_line_9 : List UInt8 := [170, 0, 0, 0, 0, 0, 0, 180, 0, 0, 0, 0, 0, 0, 0, 6, 0, 0, 0, 44, 0, 0, 0, 74, 0, 0, 0, 74, 0, 0, 0, 74, 0, 0, 0, 100, 0, 0, 0, 135, 0, 0, 0, 153]
abbrev dktX5_line_9 : List UInt8 := dkwX5_line_9 ++ dktX5_line_10
def dkwX5_line_8 : List UInt8 := [54, 5, 167, 0, 17, 25, 4, 18, 80, 182, 0, 89, 153, 0, 7, 16, 6, 54, 5, 21, 5]
abbrev dktX5_line_8 : List UInt8 := dkwX5_line_8 ++ dktX5_line_9
def dkwX5_line_7 : List UInt8 := [182, 0, 89, 153, 0, 39, 7, 54, 5, 167, 0, 33, 25, 4, 18, 78, 182, 0, 89, 153, 0, 23, 8]
abbrev dktX5_line_7 : List UInt8 := dkwX5_line_7 ++ dktX5_line_8
def dkwX5_line_6 : List UInt8 := [167, 0, 65, 25, 4, 18, 74, 182, 0, 89, 153, 0, 55, 6, 54, 5, 167, 0, 49, 25, 4, 18, 76]
abbrev dktX5_line_6 : List UInt8 := dkwX5_line_6 ++ dktX5_line_7
def dkwX5_line_5 : List UInt8 := [153, 0, 87, 4, 54, 5, 167, 0, 81, 25, 4, 18, 72, 182, 0, 89, 153, 0, 71, 5, 54, 5]
abbrev dktX5_line_5 : List UInt8 := dkwX5_line_5 ++ dktX5_line_6
def dkwX5_line_4 : List UInt8 := [25, 4, 18, 68, 182, 0, 89, 153, 0, 103, 3, 54, 5, 167, 0, 97, 25, 4, 18, 70, 182, 0, 89]
abbrev dktX5_line_4 : List UInt8 := dkwX5_line_4 ++ dktX5_line_5
def dkwX5_line_3 : List UInt8 := [171, 0, 0, 0, 0, 0, 0, 178, 0, 0, 0, 7, 202, 144, 104, 27, 0, 0, 0, 68, 0, 0, 13, 227, 0, 0, 0, 100, 0, 1, 121, 215, 0, 0, 0, 84, 0, 1, 167, 208, 0, 0, 0, 132, 0, 1, 170, 211, 0, 0, 0, 148, 0, 1, 208, 91, 0, 0, 0, 116, 5, 176, 185, 131, 0, 0, 0, 164]
abbrev dktX5_line_3 : List UInt8 := dkwX5_line_3 ++ dktX5_line_4
def dkwX5_line_2 : List UInt8 := [77, 44, 58, 4, 2, 54, 5, 25, 4, 182, 0, 86]
abbrev dktX5_line_2 : List UInt8 := dkwX5_line_2 ++ dktX5_line_3
def dkwX5_line_1 : List UInt8 := [89, 6, 18, 74, 83, 89, 7, 18, 76, 83, 89, 8, 18, 78, 83, 89, 16, 6, 18, 80, 83, 182, 0, 82]
abbrev dktX5_line_1 : List UInt8 := dkwX5_line_1 ++ dktX5_line_2
def dkwX5_line_0 : List UInt8 := [16, 15, 60, 42, 16, 7, 189, 0, 37, 89, 3, 18, 68, 83, 89, 4, 18, 70, 83, 89, 5, 18, 72, 83]
abbrev dktX5_line_0 : List UInt8 := dkwX5_line_0 ++ dktX5_line_1
theorem dksX5_line_0 : cX5_line.data.toList.drop 0 = dktX5_line_0 := by decide +kernel
theorem dksX5_line_1 : cX5_line.data.toList.drop 24 = dktX5_line_1 := dk_seg dksX5_line_0 24 rfl rfl
theorem dksX5_line_2 : cX5_line.data.toList.drop 48 = dktX5_line_2 := dk_seg dksX5_line_1 24 rfl rfl
theorem dksX5_line_3 : cX5_line.data.toList.drop 60 = dktX5_line_3 := dk_seg dksX5_line_2 12 rfl rfl
theorem dksX5_line_4 : cX5_line.data.toList.drop 128 = dktX5_line_4 := dk_seg dksX5_line_3 68 rfl rfl
theorem dksX5_line_5 : cX5_line.data.toList.drop 151 = dktX5_line_5 := dk_seg dksX5_line_4 23 rfl rfl
theorem dksX5_line_6 : cX5_line.data.toList.drop 173 = dktX5_line_6 := dk_seg dksX5_line_5 22 rfl rfl
theorem dksX5_line_7 : cX5_line.data.toList.drop 196 = dktX5_line_7 := dk_seg dksX5_line_6 23 rfl rfl
theorem dksX5_line_8 : cX5_line.data.toList.drop 219 = dktX5_line_8 := dk_seg dksX5_line_7 23 rfl rfl
theorem dksX5_line_9 : cX5_line.data.toList.drop 240 = dktX5_line_9 := dk_seg dksX5_line_8 21 rfl rfl
theorem dksX5_line_10 : cX5_line.data.toList.drop 284 = dktX5_line_10 := dk_seg dksX5_line_9 44 rfl rfl
theorem dksX5_line_11 : cX5_line.data.toList.drop 308 = dktX5_line_11 := dk_seg dksX5_line_10 24 rfl rfl
theorem dksX5_line_12 : cX5_line.data.toList.drop 332 = dktX5_line_12 := dk_seg dksX5_line_11 24 rfl rfl
theorem dksX5_line_13 : cX5_line.data.toList.drop 356 = dktX5_line_13 := dk_seg dksX5_line_12 24 rfl rfl
theorem dksX5_line_14 : cX5_line.data.toList.drop 380 = dktX5_line_14 := dk_seg dksX5_line_13 24 rfl rfl
theorem dksX5_line_15 : cX5_line.data.toList.drop 404 = dktX5_line_15 := dk_seg dksX5_line_14 24 rfl rfl
theorem dksX5_line_16 : cX5_line.data.toList.drop 427 = dktX5_line_16 := dk_seg dksX5_line_15 23 rfl rfl
theorem dksX5_line_17 : cX5_line.data.toList.drop 451 = dktX5_line_17 := dk_seg dksX5_line_16 24 rfl rfl
theorem dX5_line_0 : decode cX5_line 0 = .ok (.bipush 15, 2) := dk_16 15 (dk_at dksX5_line_0 0 rfl rfl)
theorem dX5_line_2 : decode cX5_line 2 = .ok (.istore_n 1, 1) := dk_60 (dk_at dksX5_line_0 2 rfl rfl)
theorem dX5_line_3 : decode cX5_line 3 = .ok (.aload_n 0, 1) := dk_42 (dk_at dksX5_line_0 3 rfl rfl)
theorem dX5_line_4 : decode cX5_line 4 = .ok (.bipush 7, 2) := dk_16 7 (dk_at dksX5_line_0 4 rfl rfl)
theorem dX5_line_6 : decode cX5_line 6 = .ok (.anewarray 37, 3) := dk_189 0 37 (dk_at dksX5_line_0 6 rfl rfl)
theorem dX5_line_9 : decode cX5_line 9 = .ok (.dup, 1) := dk_89 (dk_at dksX5_line_0 9 rfl rfl)
theorem dX5_line_10 : decode cX5_line 10 = .ok (.iconst 0, 1) := dk_3 (dk_at dksX5_line_0 10 rfl rfl)
theorem dX5_line_11 : decode cX5_line 11 = .ok (.ldc 68, 2) := dk_18 68 (dk_at dksX5_line_0 11 rfl rfl)
theorem dX5_line_13 : decode cX5_line 13 = .ok (.aastore, 1) := dk_83 (dk_at dksX5_line_0 13 rfl rfl)
theorem dX5_line_14 : decode cX5_line 14 = .ok (.dup, 1) := dk_89 (dk_at dksX5_line_0 14 rfl rfl)
theorem dX5_line_15 : decode cX5_line 15 = .ok (.iconst 1, 1) := dk_4 (dk_at dksX5_line_0 15 rfl rfl)
theorem dX5_line_16 : decode cX5_line 16 = .ok (.ldc 70, 2) := dk_18 70 (dk_at dksX5_line_0 16 rfl rfl)
theorem dX5_line_18 : decode cX5_line 18 = .ok (.aastore, 1) := dk_83 (dk_at dksX5_line_0 18 rfl rfl)
theorem dX5_line_19 : decode cX5_line 19 = .ok (.dup, 1) := dk_89 (dk_at dksX5_line_0 19 rfl rfl)
theorem dX5_line_20 : decode cX5_line 20 = .ok (.iconst 2, 1) := dk_5 (dk_at dksX5_line_0 20 rfl rfl)
theorem dX5_line_21 : decode cX5_line 21 = .ok (.ldc 72, 2) := dk_18 72 (dk_at dksX5_line_0 21 rfl rfl)
theorem dX5_line_23 : decode cX5_line 23 = .ok (.aastore, 1) := dk_83 (dk_at dksX5_line_0 23 rfl rfl)
theorem dX5_line_24 : decode cX5_line 24 = .ok (.dup, 1) := dk_89 (dk_at dksX5_line_1 0 rfl rfl)
theorem dX5_line_25 : decode cX5_line 25 = .ok (.iconst 3, 1) := dk_6 (dk_at dksX5_line_1 1 rfl rfl)
theorem dX5_line_26 : decode cX5_line 26 = .ok (.ldc 74, 2) := dk_18 74 (dk_at dksX5_line_1 2 rfl rfl)
theorem dX5_line_28 : decode cX5_line 28 = .ok (.aastore, 1) := dk_83 (dk_at dksX5_line_1 4 rfl rfl)
theorem dX5_line_29 : decode cX5_line 29 = .ok (.dup, 1) := dk_89 (dk_at dksX5_line_1 5 rfl rfl)
theorem dX5_line_30 : decode cX5_line 30 = .ok (.iconst 4, 1) := dk_7 (dk_at dksX5_line_1 6 rfl rfl)
theorem dX5_line_31 : decode cX5_line 31 = .ok (.ldc 76, 2) := dk_18 76 (dk_at dksX5_line_1 7 rfl rfl)
theorem dX5_line_33 : decode cX5_line 33 = .ok (.aastore, 1) := dk_83 (dk_at dksX5_line_1 9 rfl rfl)
theorem dX5_line_34 : decode cX5_line 34 = .ok (.dup, 1) := dk_89 (dk_at dksX5_line_1 10 rfl rfl)
theorem dX5_line_35 : decode cX5_line 35 = .ok (.iconst 5, 1) := dk_8 (dk_at dksX5_line_1 11 rfl rfl)
theorem dX5_line_36 : decode cX5_line 36 = .ok (.ldc 78, 2) := dk_18 78 (dk_at dksX5_line_1 12 rfl rfl)
theorem dX5_line_38 : decode cX5_line 38 = .ok (.aastore, 1) := dk_83 (dk_at dksX5_line_1 14 rfl rfl)
theorem dX5_line_39 : decode cX5_line 39 = .ok (.dup, 1) := dk_89 (dk_at dksX5_line_1 15 rfl rfl)
theorem dX5_line_40 : decode cX5_line 40 = .ok (.bipush 6, 2) := dk_16 6 (dk_at dksX5_line_1 16 rfl rfl)
theorem dX5_line_42 : decode cX5_line 42 = .ok (.ldc 80, 2) := dk_18 80 (dk_at dksX5_line_1 18 rfl rfl)
theorem dX5_line_44 : decode cX5_line 44 = .ok (.aastore, 1) := dk_83 (dk_at dksX5_line_1 20 rfl rfl)
theorem dX5_line_45 : decode cX5_line 45 = .ok (.invokevirtual 82, 3) := dk_182 0 82 (dk_at dksX5_line_1 21 rfl rfl)
theorem dX5_line_48 : decode cX5_line 48 = .ok (.astore_n 2, 1) := dk_77 (dk_at dksX5_line_2 0 rfl rfl)
theorem dX5_line_49 : decode cX5_line 49 = .ok (.aload_n 2, 1) := dk_44 (dk_at dksX5_line_2 1 rfl rfl)
theorem dX5_line_50 : decode cX5_line 50 = .ok (.astore 4, 2) := dk_58 4 (dk_at dksX5_line_2 2 rfl rfl)
theorem dX5_line_52 : decode cX5_line 52 = .ok (.iconst (-1), 1) := dk_2 (dk_at dksX5_line_2 4 rfl rfl)
theorem dX5_line_53 : decode cX5_line 53 = .ok (.istore 5, 2) := dk_54 5 (dk_at dksX5_line_2 5 rfl rfl)
theorem dX5_line_55 : decode cX5_line 55 = .ok (.aload 4, 2) := dk_25 4 (dk_at dksX5_line_2 7 rfl rfl)
theorem dX5_line_57 : decode cX5_line 57 = .ok (.invokevirtual 86, 3) := dk_182 0 86 (dk_at dksX5_line_2 9 rfl rfl)
theorem dX5_line_60 : decode cX5_line 60 = .ok (.lookupswitch 178 #[(-896505829, 68), (3555, 100), (96727, 84), (108496, 132), (109267, 148), (118875, 116), (95467907, 164)], 68) := by decide +kernel
theorem dX5_line_128 : decode cX5_line 128 = .ok (.aload 4, 2) := dk_25 4 (dk_at dksX5_line_4 0 rfl rfl)
theorem dX5_line_130 : decode cX5_line 130 = .ok (.ldc 68, 2) := dk_18 68 (dk_at dksX5_line_4 2 rfl rfl)
theorem dX5_line_132 : decode cX5_line 132 = .ok (.invokevirtual 89, 3) := dk_182 0 89 (dk_at dksX5_line_4 4 rfl rfl)
theorem dX5_line_135 : decode cX5_line 135 = .ok (.ifCond .eq 103, 3) := dk_153 0 103 (dk_at dksX5_line_4 7 rfl rfl)
theorem dX5_line_138 : decode cX5_line 138 = .ok (.iconst 0, 1) := dk_3 (dk_at dksX5_line_4 10 rfl rfl)
theorem dX5_line_139 : decode cX5_line 139 = .ok (.istore 5, 2) := dk_54 5 (dk_at dksX5_line_4 11 rfl rfl)
theorem dX5_line_141 : decode cX5_line 141 = .ok (.goto 97, 3) := dk_167 0 97 (dk_at dksX5_line_4 13 rfl rfl)
theorem dX5_line_144 : decode cX5_line 144 = .ok (.aload 4, 2) := dk_25 4 (dk_at dksX5_line_4 16 rfl rfl)
theorem dX5_line_146 : decode cX5_line 146 = .ok (.ldc 70, 2) := dk_18 70 (dk_at dksX5_line_4 18 rfl rfl)
theorem dX5_line_148 : decode cX5_line 148 = .ok (.invokevirtual 89, 3) := dk_182 0 89 (dk_at dksX5_line_4 20 rfl rfl)
theorem dX5_line_151 : decode cX5_line 151 = .ok (.ifCond .eq 87, 3) := dk_153 0 87 (dk_at dksX5_line_5 0 rfl rfl)
theorem dX5_line_154 : decode cX5_line 154 = .ok (.iconst 1, 1) := dk_4 (dk_at dksX5_line_5 3 rfl rfl)
theorem dX5_line_155 : decode cX5_line 155 = .ok (.istore 5, 2) := dk_54 5 (dk_at dksX5_line_5 4 rfl rfl)
theorem dX5_line_157 : decode cX5_line 157 = .ok (.goto 81, 3) := dk_167 0 81 (dk_at dksX5_line_5 6 rfl rfl)
theorem dX5_line_160 : decode cX5_line 160 = .ok (.aload 4, 2) := dk_25 4 (dk_at dksX5_line_5 9 rfl rfl)
theorem dX5_line_162 : decode cX5_line 162 = .ok (.ldc 72, 2) := dk_18 72 (dk_at dksX5_line_5 11 rfl rfl)
theorem dX5_line_164 : decode cX5_line 164 = .ok (.invokevirtual 89, 3) := dk_182 0 89 (dk_at dksX5_line_5 13 rfl rfl)
theorem dX5_line_167 : decode cX5_line 167 = .ok (.ifCond .eq 71, 3) := dk_153 0 71 (dk_at dksX5_line_5 16 rfl rfl)
theorem dX5_line_170 : decode cX5_line 170 = .ok (.iconst 2, 1) := dk_5 (dk_at dksX5_line_5 19 rfl rfl)
theorem dX5_line_171 : decode cX5_line 171 = .ok (.istore 5, 2) := dk_54 5 (dk_at dksX5_line_5 20 rfl rfl)
theorem dX5_line_173 : decode cX5_line 173 = .ok (.goto 65, 3) := dk_167 0 65 (dk_at dksX5_line_6 0 rfl rfl)
theorem dX5_line_176 : decode cX5_line 176 = .ok (.aload 4, 2) := dk_25 4 (dk_at dksX5_line_6 3 rfl rfl)
theorem dX5_line_178 : decode cX5_line 178 = .ok (.ldc 74, 2) := dk_18 74 (dk_at dksX5_line_6 5 rfl rfl)
theorem dX5_line_180 : decode cX5_line 180 = .ok (.invokevirtual 89, 3) := dk_182 0 89 (dk_at dksX5_line_6 7 rfl rfl)
theorem dX5_line_183 : decode cX5_line 183 = .ok (.ifCond .eq 55, 3) := dk_153 0 55 (dk_at dksX5_line_6 10 rfl rfl)
theorem dX5_line_186 : decode cX5_line 186 = .ok (.iconst 3, 1) := dk_6 (dk_at dksX5_line_6 13 rfl rfl)
theorem dX5_line_187 : decode cX5_line 187 = .ok (.istore 5, 2) := dk_54 5 (dk_at dksX5_line_6 14 rfl rfl)
theorem dX5_line_189 : decode cX5_line 189 = .ok (.goto 49, 3) := dk_167 0 49 (dk_at dksX5_line_6 16 rfl rfl)
theorem dX5_line_192 : decode cX5_line 192 = .ok (.aload 4, 2) := dk_25 4 (dk_at dksX5_line_6 19 rfl rfl)
theorem dX5_line_194 : decode cX5_line 194 = .ok (.ldc 76, 2) := dk_18 76 (dk_at dksX5_line_6 21 rfl rfl)
theorem dX5_line_196 : decode cX5_line 196 = .ok (.invokevirtual 89, 3) := dk_182 0 89 (dk_at dksX5_line_7 0 rfl rfl)
theorem dX5_line_199 : decode cX5_line 199 = .ok (.ifCond .eq 39, 3) := dk_153 0 39 (dk_at dksX5_line_7 3 rfl rfl)
theorem dX5_line_202 : decode cX5_line 202 = .ok (.iconst 4, 1) := dk_7 (dk_at dksX5_line_7 6 rfl rfl)
theorem dX5_line_203 : decode cX5_line 203 = .ok (.istore 5, 2) := dk_54 5 (dk_at dksX5_line_7 7 rfl rfl)
theorem dX5_line_205 : decode cX5_line 205 = .ok (.goto 33, 3) := dk_167 0 33 (dk_at dksX5_line_7 9 rfl rfl)
theorem dX5_line_208 : decode cX5_line 208 = .ok (.aload 4, 2) := dk_25 4 (dk_at dksX5_line_7 12 rfl rfl)
theorem dX5_line_210 : decode cX5_line 210 = .ok (.ldc 78, 2) := dk_18 78 (dk_at dksX5_line_7 14 rfl rfl)
theorem dX5_line_212 : decode cX5_line 212 = .ok (.invokevirtual 89, 3) := dk_182 0 89 (dk_at dksX5_line_7 16 rfl rfl)
theorem dX5_line_215 : decode cX5_line 215 = .ok (.ifCond .eq 23, 3) := dk_153 0 23 (dk_at dksX5_line_7 19 rfl rfl)
theorem dX5_line_218 : decode cX5_line 218 = .ok (.iconst 5, 1) := dk_8 (dk_at dksX5_line_7 22 rfl rfl)
theorem dX5_line_219 : decode cX5_line 219 = .ok (.istore 5, 2) := dk_54 5 (dk_at dksX5_line_8 0 rfl rfl)
theorem dX5_line_221 : decode cX5_line 221 = .ok (.goto 17, 3) := dk_167 0 17 (dk_at dksX5_line_8 2 rfl rfl)
theorem dX5_line_224 : decode cX5_line 224 = .ok (.aload 4, 2) := dk_25 4 (dk_at dksX5_line_8 5 rfl rfl)
theorem dX5_line_226 : decode cX5_line 226 = .ok (.ldc 80, 2) := dk_18 80 (dk_at dksX5_line_8 7 rfl rfl)
theorem dX5_line_228 : decode cX5_line 228 = .ok (.invokevirtual 89, 3) := dk_182 0 89 (dk_at dksX5_line_8 9 rfl rfl)
theorem dX5_line_231 : decode cX5_line 231 = .ok (.ifCond .eq 7, 3) := dk_153 0 7 (dk_at dksX5_line_8 12 rfl rfl)
theorem dX5_line_234 : decode cX5_line 234 = .ok (.bipush 6, 2) := dk_16 6 (dk_at dksX5_line_8 15 rfl rfl)
theorem dX5_line_236 : decode cX5_line 236 = .ok (.istore 5, 2) := dk_54 5 (dk_at dksX5_line_8 17 rfl rfl)
theorem dX5_line_238 : decode cX5_line 238 = .ok (.iload 5, 2) := dk_21 5 (dk_at dksX5_line_8 19 rfl rfl)
theorem dX5_line_240 : decode cX5_line 240 = .ok (.tableswitch 180 0 6 #[44, 74, 74, 74, 100, 135, 153], 44) := by decide +kernel
theorem dX5_line_284 : decode cX5_line 284 = .ok (.aload_n 0, 1) := dk_42 (dk_at dksX5_line_10 0 rfl rfl)
theorem dX5_line_285 : decode cX5_line 285 = .ok (.iconst 4, 1) := dk_7 (dk_at dksX5_line_10 1 rfl rfl)
theorem dX5_line_286 : decode cX5_line 286 = .ok (.newarray .int, 2) := dk_188_10 (dk_at dksX5_line_10 2 rfl rfl)
theorem dX5_line_288 : decode cX5_line 288 = .ok (.dup, 1) := dk_89 (dk_at dksX5_line_10 4 rfl rfl)
theorem dX5_line_289 : decode cX5_line 289 = .ok (.iconst 0, 1) := dk_3 (dk_at dksX5_line_10 5 rfl rfl)
theorem dX5_line_290 : decode cX5_line 290 = .ok (.iconst 0, 1) := dk_3 (dk_at dksX5_line_10 6 rfl rfl)
theorem dX5_line_291 : decode cX5_line 291 = .ok (.iastore, 1) := dk_79 (dk_at dksX5_line_10 7 rfl rfl)
theorem dX5_line_292 : decode cX5_line 292 = .ok (.dup, 1) := dk_89 (dk_at dksX5_line_10 8 rfl rfl)
theorem dX5_line_293 : decode cX5_line 293 = .ok (.iconst 1, 1) := dk_4 (dk_at dksX5_line_10 9 rfl rfl)
theorem dX5_line_294 : decode cX5_line 294 = .ok (.sipush 256, 3) := dk_17 1 0 (dk_at dksX5_line_10 10 rfl rfl)
theorem dX5_line_297 : decode cX5_line 297 = .ok (.iastore, 1) := dk_79 (dk_at dksX5_line_10 13 rfl rfl)
theorem dX5_line_298 : decode cX5_line 298 = .ok (.dup, 1) := dk_89 (dk_at dksX5_line_10 14 rfl rfl)
theorem dX5_line_299 : decode cX5_line 299 = .ok (.iconst 2, 1) := dk_5 (dk_at dksX5_line_10 15 rfl rfl)
theorem dX5_line_300 : decode cX5_line 300 = .ok (.iconst 1, 1) := dk_4 (dk_at dksX5_line_10 16 rfl rfl)
theorem dX5_line_301 : decode cX5_line 301 = .ok (.iastore, 1) := dk_79 (dk_at dksX5_line_10 17 rfl rfl)
theorem dX5_line_302 : decode cX5_line 302 = .ok (.dup, 1) := dk_89 (dk_at dksX5_line_10 18 rfl rfl)
theorem dX5_line_303 : decode cX5_line 303 = .ok (.iconst 3, 1) := dk_6 (dk_at dksX5_line_10 19 rfl rfl)
theorem dX5_line_304 : decode cX5_line 304 = .ok (.sipush 255, 3) := dk_17 0 255 (dk_at dksX5_line_10 20 rfl rfl)
theorem dX5_line_307 : decode cX5_line 307 = .ok (.iastore, 1) := dk_79 (dk_at dksX5_line_10 23 rfl rfl)
theorem dX5_line_308 : decode cX5_line 308 = .ok (.invokevirtual 93, 3) := dk_182 0 93 (dk_at dksX5_line_11 0 rfl rfl)
theorem dX5_line_311 : decode cX5_line 311 = .ok (.goto 110, 3) := dk_167 0 110 (dk_at dksX5_line_11 3 rfl rfl)
theorem dX5_line_314 : decode cX5_line 314 = .ok (.aload_n 0, 1) := dk_42 (dk_at dksX5_line_11 6 rfl rfl)
theorem dX5_line_315 : decode cX5_line 315 = .ok (.iconst 4, 1) := dk_7 (dk_at dksX5_line_11 7 rfl rfl)
theorem dX5_line_316 : decode cX5_line 316 = .ok (.newarray .int, 2) := dk_188_10 (dk_at dksX5_line_11 8 rfl rfl)
theorem dX5_line_318 : decode cX5_line 318 = .ok (.dup, 1) := dk_89 (dk_at dksX5_line_11 10 rfl rfl)
theorem dX5_line_319 : decode cX5_line 319 = .ok (.iconst 0, 1) := dk_3 (dk_at dksX5_line_11 11 rfl rfl)
theorem dX5_line_320 : decode cX5_line 320 = .ok (.iconst 0, 1) := dk_3 (dk_at dksX5_line_11 12 rfl rfl)
theorem dX5_line_321 : decode cX5_line 321 = .ok (.iastore, 1) := dk_79 (dk_at dksX5_line_11 13 rfl rfl)
theorem dX5_line_322 : decode cX5_line 322 = .ok (.dup, 1) := dk_89 (dk_at dksX5_line_11 14 rfl rfl)
theorem dX5_line_323 : decode cX5_line 323 = .ok (.iconst 1, 1) := dk_4 (dk_at dksX5_line_11 15 rfl rfl)
theorem dX5_line_324 : decode cX5_line 324 = .ok (.iload_n 1, 1) := dk_27 (dk_at dksX5_line_11 16 rfl rfl)
theorem dX5_line_325 : decode cX5_line 325 = .ok (.iastore, 1) := dk_79 (dk_at dksX5_line_11 17 rfl rfl)
theorem dX5_line_326 : decode cX5_line 326 = .ok (.dup, 1) := dk_89 (dk_at dksX5_line_11 18 rfl rfl)
theorem dX5_line_327 : decode cX5_line 327 = .ok (.iconst 2, 1) := dk_5 (dk_at dksX5_line_11 19 rfl rfl)
theorem dX5_line_328 : decode cX5_line 328 = .ok (.iconst 0, 1) := dk_3 (dk_at dksX5_line_11 20 rfl rfl)
theorem dX5_line_329 : decode cX5_line 329 = .ok (.iastore, 1) := dk_79 (dk_at dksX5_line_11 21 rfl rfl)
theorem dX5_line_330 : decode cX5_line 330 = .ok (.dup, 1) := dk_89 (dk_at dksX5_line_11 22 rfl rfl)
theorem dX5_line_331 : decode cX5_line 331 = .ok (.iconst 3, 1) := dk_6 (dk_at dksX5_line_11 23 rfl rfl)
theorem dX5_line_332 : decode cX5_line 332 = .ok (.iload_n 1, 1) := dk_27 (dk_at dksX5_line_12 0 rfl rfl)
theorem dX5_line_333 : decode cX5_line 333 = .ok (.iastore, 1) := dk_79 (dk_at dksX5_line_12 1 rfl rfl)
theorem dX5_line_334 : decode cX5_line 334 = .ok (.invokevirtual 93, 3) := dk_182 0 93 (dk_at dksX5_line_12 2 rfl rfl)
theorem dX5_line_337 : decode cX5_line 337 = .ok (.goto 84, 3) := dk_167 0 84 (dk_at dksX5_line_12 5 rfl rfl)
theorem dX5_line_340 : decode cX5_line 340 = .ok (.aload_n 0, 1) := dk_42 (dk_at dksX5_line_12 8 rfl rfl)
theorem dX5_line_341 : decode cX5_line 341 = .ok (.bipush 6, 2) := dk_16 6 (dk_at dksX5_line_12 9 rfl rfl)
theorem dX5_line_343 : decode cX5_line 343 = .ok (.newarray .int, 2) := dk_188_10 (dk_at dksX5_line_12 11 rfl rfl)
theorem dX5_line_345 : decode cX5_line 345 = .ok (.dup, 1) := dk_89 (dk_at dksX5_line_12 13 rfl rfl)
theorem dX5_line_346 : decode cX5_line 346 = .ok (.iconst 0, 1) := dk_3 (dk_at dksX5_line_12 14 rfl rfl)
theorem dX5_line_347 : decode cX5_line 347 = .ok (.iconst 0, 1) := dk_3 (dk_at dksX5_line_12 15 rfl rfl)
theorem dX5_line_348 : decode cX5_line 348 = .ok (.iastore, 1) := dk_79 (dk_at dksX5_line_12 16 rfl rfl)
theorem dX5_line_349 : decode cX5_line 349 = .ok (.dup, 1) := dk_89 (dk_at dksX5_line_12 17 rfl rfl)
theorem dX5_line_350 : decode cX5_line 350 = .ok (.iconst 1, 1) := dk_4 (dk_at dksX5_line_12 18 rfl rfl)
theorem dX5_line_351 : decode cX5_line 351 = .ok (.iload_n 1, 1) := dk_27 (dk_at dksX5_line_12 19 rfl rfl)
theorem dX5_line_352 : decode cX5_line 352 = .ok (.iastore, 1) := dk_79 (dk_at dksX5_line_12 20 rfl rfl)
theorem dX5_line_353 : decode cX5_line 353 = .ok (.dup, 1) := dk_89 (dk_at dksX5_line_12 21 rfl rfl)
theorem dX5_line_354 : decode cX5_line 354 = .ok (.iconst 2, 1) := dk_5 (dk_at dksX5_line_12 22 rfl rfl)
theorem dX5_line_355 : decode cX5_line 355 = .ok (.iconst 0, 1) := dk_3 (dk_at dksX5_line_12 23 rfl rfl)
theorem dX5_line_356 : decode cX5_line 356 = .ok (.iastore, 1) := dk_79 (dk_at dksX5_line_13 0 rfl rfl)
theorem dX5_line_357 : decode cX5_line 357 = .ok (.dup, 1) := dk_89 (dk_at dksX5_line_13 1 rfl rfl)
theorem dX5_line_358 : decode cX5_line 358 = .ok (.iconst 3, 1) := dk_6 (dk_at dksX5_line_13 2 rfl rfl)
theorem dX5_line_359 : decode cX5_line 359 = .ok (.iload_n 1, 1) := dk_27 (dk_at dksX5_line_13 3 rfl rfl)
theorem dX5_line_360 : decode cX5_line 360 = .ok (.iastore, 1) := dk_79 (dk_at dksX5_line_13 4 rfl rfl)
theorem dX5_line_361 : decode cX5_line 361 = .ok (.dup, 1) := dk_89 (dk_at dksX5_line_13 5 rfl rfl)
theorem dX5_line_362 : decode cX5_line 362 = .ok (.iconst 4, 1) := dk_7 (dk_at dksX5_line_13 6 rfl rfl)
theorem dX5_line_363 : decode cX5_line 363 = .ok (.iconst 0, 1) := dk_3 (dk_at dksX5_line_13 7 rfl rfl)
theorem dX5_line_364 : decode cX5_line 364 = .ok (.iastore, 1) := dk_79 (dk_at dksX5_line_13 8 rfl rfl)
theorem dX5_line_365 : decode cX5_line 365 = .ok (.dup, 1) := dk_89 (dk_at dksX5_line_13 9 rfl rfl)
theorem dX5_line_366 : decode cX5_line 366 = .ok (.iconst 5, 1) := dk_8 (dk_at dksX5_line_13 10 rfl rfl)
theorem dX5_line_367 : decode cX5_line 367 = .ok (.iload_n 1, 1) := dk_27 (dk_at dksX5_line_13 11 rfl rfl)
theorem dX5_line_368 : decode cX5_line 368 = .ok (.iastore, 1) := dk_79 (dk_at dksX5_line_13 12 rfl rfl)
theorem dX5_line_369 : decode cX5_line 369 = .ok (.invokevirtual 93, 3) := dk_182 0 93 (dk_at dksX5_line_13 13 rfl rfl)
theorem dX5_line_372 : decode cX5_line 372 = .ok (.goto 49, 3) := dk_167 0 49 (dk_at dksX5_line_13 16 rfl rfl)
theorem dX5_line_375 : decode cX5_line 375 = .ok (.aload_n 0, 1) := dk_42 (dk_at dksX5_line_13 19 rfl rfl)
theorem dX5_line_376 : decode cX5_line 376 = .ok (.iconst 2, 1) := dk_5 (dk_at dksX5_line_13 20 rfl rfl)
theorem dX5_line_377 : decode cX5_line 377 = .ok (.newarray .int, 2) := dk_188_10 (dk_at dksX5_line_13 21 rfl rfl)
theorem dX5_line_379 : decode cX5_line 379 = .ok (.dup, 1) := dk_89 (dk_at dksX5_line_13 23 rfl rfl)
theorem dX5_line_380 : decode cX5_line 380 = .ok (.iconst 0, 1) := dk_3 (dk_at dksX5_line_14 0 rfl rfl)
theorem dX5_line_381 : decode cX5_line 381 = .ok (.iconst 0, 1) := dk_3 (dk_at dksX5_line_14 1 rfl rfl)
theorem dX5_line_382 : decode cX5_line 382 = .ok (.iastore, 1) := dk_79 (dk_at dksX5_line_14 2 rfl rfl)
theorem dX5_line_383 : decode cX5_line 383 = .ok (.dup, 1) := dk_89 (dk_at dksX5_line_14 3 rfl rfl)
theorem dX5_line_384 : decode cX5_line 384 = .ok (.iconst 1, 1) := dk_4 (dk_at dksX5_line_14 4 rfl rfl)
theorem dX5_line_385 : decode cX5_line 385 = .ok (.iload_n 1, 1) := dk_27 (dk_at dksX5_line_14 5 rfl rfl)
theorem dX5_line_386 : decode cX5_line 386 = .ok (.iastore, 1) := dk_79 (dk_at dksX5_line_14 6 rfl rfl)
theorem dX5_line_387 : decode cX5_line 387 = .ok (.invokevirtual 93, 3) := dk_182 0 93 (dk_at dksX5_line_14 7 rfl rfl)
theorem dX5_line_390 : decode cX5_line 390 = .ok (.goto 31, 3) := dk_167 0 31 (dk_at dksX5_line_14 10 rfl rfl)
theorem dX5_line_393 : decode cX5_line 393 = .ok (.aload_n 0, 1) := dk_42 (dk_at dksX5_line_14 13 rfl rfl)
theorem dX5_line_394 : decode cX5_line 394 = .ok (.iconst 4, 1) := dk_7 (dk_at dksX5_line_14 14 rfl rfl)
theorem dX5_line_395 : decode cX5_line 395 = .ok (.newarray .int, 2) := dk_188_10 (dk_at dksX5_line_14 15 rfl rfl)
theorem dX5_line_397 : decode cX5_line 397 = .ok (.dup, 1) := dk_89 (dk_at dksX5_line_14 17 rfl rfl)
theorem dX5_line_398 : decode cX5_line 398 = .ok (.iconst 0, 1) := dk_3 (dk_at dksX5_line_14 18 rfl rfl)
theorem dX5_line_399 : decode cX5_line 399 = .ok (.iconst 0, 1) := dk_3 (dk_at dksX5_line_14 19 rfl rfl)
theorem dX5_line_400 : decode cX5_line 400 = .ok (.iastore, 1) := dk_79 (dk_at dksX5_line_14 20 rfl rfl)
theorem dX5_line_401 : decode cX5_line 401 = .ok (.dup, 1) := dk_89 (dk_at dksX5_line_14 21 rfl rfl)
theorem dX5_line_402 : decode cX5_line 402 = .ok (.iconst 1, 1) := dk_4 (dk_at dksX5_line_14 22 rfl rfl)
theorem dX5_line_403 : decode cX5_line 403 = .ok (.iload_n 1, 1) := dk_27 (dk_at dksX5_line_14 23 rfl rfl)
theorem dX5_line_404 : decode cX5_line 404 = .ok (.iastore, 1) := dk_79 (dk_at dksX5_line_15 0 rfl rfl)
theorem dX5_line_405 : decode cX5_line 405 = .ok (.dup, 1) := dk_89 (dk_at dksX5_line_15 1 rfl rfl)
theorem dX5_line_406 : decode cX5_line 406 = .ok (.iconst 2, 1) := dk_5 (dk_at dksX5_line_15 2 rfl rfl)
theorem dX5_line_407 : decode cX5_line 407 = .ok (.iconst 1, 1) := dk_4 (dk_at dksX5_line_15 3 rfl rfl)
theorem dX5_line_408 : decode cX5_line 408 = .ok (.iastore, 1) := dk_79 (dk_at dksX5_line_15 4 rfl rfl)
theorem dX5_line_409 : decode cX5_line 409 = .ok (.dup, 1) := dk_89 (dk_at dksX5_line_15 5 rfl rfl)
theorem dX5_line_410 : decode cX5_line 410 = .ok (.iconst 3, 1) := dk_6 (dk_at dksX5_line_15 6 rfl rfl)
theorem dX5_line_411 : decode cX5_line 411 = .ok (.bipush 60, 2) := dk_16 60 (dk_at dksX5_line_15 7 rfl rfl)
theorem dX5_line_413 : decode cX5_line 413 = .ok (.iastore, 1) := dk_79 (dk_at dksX5_line_15 9 rfl rfl)
theorem dX5_line_414 : decode cX5_line 414 = .ok (.invokevirtual 93, 3) := dk_182 0 93 (dk_at dksX5_line_15 10 rfl rfl)
theorem dX5_line_417 : decode cX5_line 417 = .ok (.goto 4, 3) := dk_167 0 4 (dk_at dksX5_line_15 13 rfl rfl)
theorem dX5_line_420 : decode cX5_line 420 = .ok (.aconst_null, 1) := dk_1 (dk_at dksX5_line_15 16 rfl rfl)
theorem dX5_line_421 : decode cX5_line 421 = .ok (.astore_n 3, 1) := dk_78 (dk_at dksX5_line_15 17 rfl rfl)
theorem dX5_line_422 : decode cX5_line 422 = .ok (.aload_n 3, 1) := dk_45 (dk_at dksX5_line_15 18 rfl rfl)
theorem dX5_line_423 : decode cX5_line 423 = .ok (.ifnull 31, 3) := dk_198 0 31 (dk_at dksX5_line_15 19 rfl rfl)
theorem dX5_line_426 : decode cX5_line 426 = .ok (.aload_n 0, 1) := dk_42 (dk_at dksX5_line_15 22 rfl rfl)
theorem dX5_line_427 : decode cX5_line 427 = .ok (.getfield 12, 3) := dk_180 0 12 (dk_at dksX5_line_16 0 rfl rfl)
theorem dX5_line_430 : decode cX5_line 430 = .ok (.new 97, 3) := dk_187 0 97 (dk_at dksX5_line_16 3 rfl rfl)
theorem dX5_line_433 : decode cX5_line 433 = .ok (.dup, 1) := dk_89 (dk_at dksX5_line_16 6 rfl rfl)
theorem dX5_line_434 : decode cX5_line 434 = .ok (.aload_n 2, 1) := dk_44 (dk_at dksX5_line_16 7 rfl rfl)
theorem dX5_line_435 : decode cX5_line 435 = .ok (.invokestatic 99, 3) := dk_184 0 99 (dk_at dksX5_line_16 8 rfl rfl)
theorem dX5_line_438 : decode cX5_line 438 = .ok (.aload_n 3, 1) := dk_45 (dk_at dksX5_line_16 11 rfl rfl)
theorem dX5_line_439 : decode cX5_line 439 = .ok (.invokespecial 102, 3) := dk_183 0 102 (dk_at dksX5_line_16 12 rfl rfl)
theorem dX5_line_442 : decode cX5_line 442 = .ok (.invokeinterface 105 2, 5) := by decide +kernel
theorem dX5_line_447 : decode cX5_line 447 = .ok (.ifCond .eq 7, 3) := dk_153 0 7 (dk_at dksX5_line_16 20 rfl rfl)
theorem dX5_line_450 : decode cX5_line 450 = .ok (.iconst 1, 1) := dk_4 (dk_at dksX5_line_16 23 rfl rfl)
theorem dX5_line_451 : decode cX5_line 451 = .ok (.goto 4, 3) := dk_167 0 4 (dk_at dksX5_line_17 0 rfl rfl)
theorem dX5_line_454 : decode cX5_line 454 = .ok (.iconst 0, 1) := dk_3 (dk_at dksX5_line_17 3 rfl rfl)
theorem dX5_line_455 : decode cX5_line 455 = .ok (.ireturn, 1) := dk_172 (dk_at dksX5_line_17 4 rfl rfl)
abbrev cX5_word : ByteArray := prog_5_method_4_code
def yX5_word : MethodName := ⟨RX5, "word", "([Ljava/lang/String;)Ljava/lang/String;"⟩
def dkwX5_word_2 : List UInt8 := [184, 0, 44, 61, 132, 3, 1, 167, 255, 205, 42, 89, 180, 0, 22, 28, 96, 181, 0, 22, 18, 50, 176]
abbrev dktX5_word_2 : List UInt8 := dkwX5_word_2 ++ []
def dkwX5_word_1 : List UInt8 := [182, 0, 36, 160, 0, 18, 42, 89, 180, 0, 22, 21, 4, 96, 181, 0, 22, 43, 29, 50, 176, 28, 21, 4]
abbrev dktX5_word_1 : List UInt8 := dkwX5_word_1 ++ dktX5_word_2
def dkwX5_word_0 : List UInt8 := [3, 61, 3, 62, 29, 43, 190, 162, 0, 51, 42, 43, 29, 50, 182, 0, 40, 54, 4, 21, 4, 43, 29, 50]
abbrev dktX5_word_0 : List UInt8 := dkwX5_word_0 ++ dktX5_word_1
theorem dksX5_word_0 : cX5_word.data.toList.drop 0 = dktX5_word_0 := by decide +kernel
theorem dksX5_word_1 : cX5_word.data.toList.drop 24 = dktX5_word_1 := dk_seg dksX5_word_0 24 rfl rfl
theorem dksX5_word_2 : cX5_word.data.toList.drop 48 = dktX5_word_2 := dk_seg dksX5_word_1 24 rfl rfl
theorem dX5_word_0 : decode cX5_word 0 = .ok (.iconst 0, 1) := dk_3 (dk_at dksX5_word_0 0 rfl rfl)
theorem dX5_word_1 : decode cX5_word 1 = .ok (.istore_n 2, 1) := dk_61 (dk_at dksX5_word_0 1 rfl rfl)
theorem dX5_word_2 : decode cX5_word 2 = .ok (.iconst 0, 1) := dk_3 (dk_at dksX5_word_0 2 rfl rfl)
theorem dX5_word_3 : decode cX5_word 3 = .ok (.istore_n 3, 1) := dk_62 (dk_at dksX5_word_0 3 rfl rfl)
theorem dX5_word_4 : decode cX5_word 4 = .ok (.iload_n 3, 1) := dk_29 (dk_at dksX5_word_0 4 rfl rfl)
theorem dX5_word_5 : decode cX5_word 5 = .ok (.aload_n 1, 1) := dk_43 (dk_at dksX5_word_0 5 rfl rfl)
theorem dX5_word_6 : decode cX5_word 6 = .ok (.arraylength, 1) := dk_190 (dk_at dksX5_word_0 6 rfl rfl)
theorem dX5_word_7 : decode cX5_word 7 = .ok (.if_icmp .ge 51, 3) := dk_162 0 51 (dk_at dksX5_word_0 7 rfl rfl)
theorem dX5_word_10 : decode cX5_word 10 = .ok (.aload_n 0, 1) := dk_42 (dk_at dksX5_word_0 10 rfl rfl)
theorem dX5_word_11 : decode cX5_word 11 = .ok (.aload_n 1, 1) := dk_43 (dk_at dksX5_word_0 11 rfl rfl)
theorem dX5_word_12 : decode cX5_word 12 = .ok (.iload_n 3, 1) := dk_29 (dk_at dksX5_word_0 12 rfl rfl)
theorem dX5_word_13 : decode cX5_word 13 = .ok (.aaload, 1) := dk_50 (dk_at dksX5_word_0 13 rfl rfl)
theorem dX5_word_14 : decode cX5_word 14 = .ok (.invokevirtual 40, 3) := dk_182 0 40 (dk_at dksX5_word_0 14 rfl rfl)
theorem dX5_word_17 : decode cX5_word 17 = .ok (.istore 4, 2) := dk_54 4 (dk_at dksX5_word_0 17 rfl rfl)
theorem dX5_word_19 : decode cX5_word 19 = .ok (.iload 4, 2) := dk_21 4 (dk_at dksX5_word_0 19 rfl rfl)
theorem dX5_word_21 : decode cX5_word 21 = .ok (.aload_n 1, 1) := dk_43 (dk_at dksX5_word_0 21 rfl rfl)
theorem dX5_word_22 : decode cX5_word 22 = .ok (.iload_n 3, 1) := dk_29 (dk_at dksX5_word_0 22 rfl rfl)
theorem dX5_word_23 : decode cX5_word 23 = .ok (.aaload, 1) := dk_50 (dk_at dksX5_word_0 23 rfl rfl)
theorem dX5_word_24 : decode cX5_word 24 = .ok (.invokevirtual 36, 3) := dk_182 0 36 (dk_at dksX5_word_1 0 rfl rfl)
theorem dX5_word_27 : decode cX5_word 27 = .ok (.if_icmp .ne 18, 3) := dk_160 0 18 (dk_at dksX5_word_1 3 rfl rfl)
theorem dX5_word_30 : decode cX5_word 30 = .ok (.aload_n 0, 1) := dk_42 (dk_at dksX5_word_1 6 rfl rfl)
theorem dX5_word_31 : decode cX5_word 31 = .ok (.dup, 1) := dk_89 (dk_at dksX5_word_1 7 rfl rfl)
theorem dX5_word_32 : decode cX5_word 32 = .ok (.getfield 22, 3) := dk_180 0 22 (dk_at dksX5_word_1 8 rfl rfl)
theorem dX5_word_35 : decode cX5_word 35 = .ok (.iload 4, 2) := dk_21 4 (dk_at dksX5_word_1 11 rfl rfl)
theorem dX5_word_37 : decode cX5_word 37 = .ok (.iadd, 1) := dk_96 (dk_at dksX5_word_1 13 rfl rfl)
theorem dX5_word_38 : decode cX5_word 38 = .ok (.putfield 22, 3) := dk_181 0 22 (dk_at dksX5_word_1 14 rfl rfl)
theorem dX5_word_41 : decode cX5_word 41 = .ok (.aload_n 1, 1) := dk_43 (dk_at dksX5_word_1 17 rfl rfl)
theorem dX5_word_42 : decode cX5_word 42 = .ok (.iload_n 3, 1) := dk_29 (dk_at dksX5_word_1 18 rfl rfl)
theorem dX5_word_43 : decode cX5_word 43 = .ok (.aaload, 1) := dk_50 (dk_at dksX5_word_1 19 rfl rfl)
theorem dX5_word_44 : decode cX5_word 44 = .ok (.areturn, 1) := dk_176 (dk_at dksX5_word_1 20 rfl rfl)
theorem dX5_word_45 : decode cX5_word 45 = .ok (.iload_n 2, 1) := dk_28 (dk_at dksX5_word_1 21 rfl rfl)
theorem dX5_word_46 : decode cX5_word 46 = .ok (.iload 4, 2) := dk_21 4 (dk_at dksX5_word_1 22 rfl rfl)
theorem dX5_word_48 : decode cX5_word 48 = .ok (.invokestatic 44, 3) := dk_184 0 44 (dk_at dksX5_word_2 0 rfl rfl)
theorem dX5_word_51 : decode cX5_word 51 = .ok (.istore_n 2, 1) := dk_61 (dk_at dksX5_word_2 3 rfl rfl)
theorem dX5_word_52 : decode cX5_word 52 = .ok (.iinc 3 1, 3) := dk_132 3 1 (dk_at dksX5_word_2 4 rfl rfl)
theorem dX5_word_55 : decode cX5_word 55 = .ok (.goto (-51), 3) := dk_167 255 205 (dk_at dksX5_word_2 7 rfl rfl)
theorem dX5_word_58 : decode cX5_word 58 = .ok (.aload_n 0, 1) := dk_42 (dk_at dksX5_word_2 10 rfl rfl)
theorem dX5_word_59 : decode cX5_word 59 = .ok (.dup, 1) := dk_89 (dk_at dksX5_word_2 11 rfl rfl)
theorem dX5_word_60 : decode cX5_word 60 = .ok (.getfield 22, 3) := dk_180 0 22 (dk_at dksX5_word_2 12 rfl rfl)
theorem dX5_word_63 : decode cX5_word 63 = .ok (.iload_n 2, 1) := dk_28 (dk_at dksX5_word_2 15 rfl rfl)
theorem dX5_word_64 : decode cX5_word 64 = .ok (.iadd, 1) := dk_96 (dk_at dksX5_word_2 16 rfl rfl)
theorem dX5_word_65 : decode cX5_word 65 = .ok (.putfield 22, 3) := dk_181 0 22 (dk_at dksX5_word_2 17 rfl rfl)
theorem dX5_word_68 : decode cX5_word 68 = .ok (.ldc 50, 2) := dk_18 50 (dk_at dksX5_word_2 20 rfl rfl)
theorem dX5_word_70 : decode cX5_word 70 = .ok (.areturn, 1) := dk_176 (dk_at dksX5_word_2 22 rfl rfl)
abbrev cX5_agree : ByteArray := prog_5_method_3_code
def yX5_agree : MethodName := ⟨RX5, "agree", "(Ljava/lang/String;)I"⟩
def dkwX5_agree_2 : List UInt8 := [28, 182, 0, 39, 160, 0, 9, 132, 2, 1, 167, 255, 204, 28, 172]
abbrev dktX5_agree_2 : List UInt8 := dkwX5_agree_2 ++ []
def dkwX5_agree_1 : List UInt8 := [185, 0, 26, 1, 0, 162, 0, 32, 42, 180, 0, 18, 42, 180, 0, 22, 28, 96, 185, 0, 32, 2, 0, 43]
abbrev dktX5_agree_1 : List UInt8 := dkwX5_agree_1 ++ dktX5_agree_2
def dkwX5_agree_0 : List UInt8 := [3, 61, 28, 43, 182, 0, 36, 162, 0, 50, 42, 180, 0, 22, 28, 96, 42, 180, 0, 18]
abbrev dktX5_agree_0 : List UInt8 := dkwX5_agree_0 ++ dktX5_agree_1
theorem dksX5_agree_0 : cX5_agree.data.toList.drop 0 = dktX5_agree_0 := by decide +kernel
theorem dksX5_agree_1 : cX5_agree.data.toList.drop 20 = dktX5_agree_1 := dk_seg dksX5_agree_0 20 rfl rfl
theorem dksX5_agree_2 : cX5_agree.data.toList.drop 44 = dktX5_agree_2 := dk_seg dksX5_agree_1 24 rfl rfl
theorem dX5_agree_0 : decode cX5_agree 0 = .ok (.iconst 0, 1) := dk_3 (dk_at dksX5_agree_0 0 rfl rfl)
theorem dX5_agree_1 : decode cX5_agree 1 = .ok (.istore_n 2, 1) := dk_61 (dk_at dksX5_agree_0 1 rfl rfl)
theorem dX5_agree_2 : decode cX5_agree 2 = .ok (.iload_n 2, 1) := dk_28 (dk_at dksX5_agree_0 2 rfl rfl)
theorem dX5_agree_3 : decode cX5_agree 3 = .ok (.aload_n 1, 1) := dk_43 (dk_at dksX5_agree_0 3 rfl rfl)
theorem dX5_agree_4 : decode cX5_agree 4 = .ok (.invokevirtual 36, 3) := dk_182 0 36 (dk_at dksX5_agree_0 4 rfl rfl)
theorem dX5_agree_7 : decode cX5_agree 7 = .ok (.if_icmp .ge 50, 3) := dk_162 0 50 (dk_at dksX5_agree_0 7 rfl rfl)
theorem dX5_agree_10 : decode cX5_agree 10 = .ok (.aload_n 0, 1) := dk_42 (dk_at dksX5_agree_0 10 rfl rfl)
theorem dX5_agree_11 : decode cX5_agree 11 = .ok (.getfield 22, 3) := dk_180 0 22 (dk_at dksX5_agree_0 11 rfl rfl)
theorem dX5_agree_14 : decode cX5_agree 14 = .ok (.iload_n 2, 1) := dk_28 (dk_at dksX5_agree_0 14 rfl rfl)
theorem dX5_agree_15 : decode cX5_agree 15 = .ok (.iadd, 1) := dk_96 (dk_at dksX5_agree_0 15 rfl rfl)
theorem dX5_agree_16 : decode cX5_agree 16 = .ok (.aload_n 0, 1) := dk_42 (dk_at dksX5_agree_0 16 rfl rfl)
theorem dX5_agree_17 : decode cX5_agree 17 = .ok (.getfield 18, 3) := dk_180 0 18 (dk_at dksX5_agree_0 17 rfl rfl)
theorem dX5_agree_20 : decode cX5_agree 20 = .ok (.invokeinterface 26 1, 5) := by decide +kernel
theorem dX5_agree_25 : decode cX5_agree 25 = .ok (.if_icmp .ge 32, 3) := dk_162 0 32 (dk_at dksX5_agree_1 5 rfl rfl)
theorem dX5_agree_28 : decode cX5_agree 28 = .ok (.aload_n 0, 1) := dk_42 (dk_at dksX5_agree_1 8 rfl rfl)
theorem dX5_agree_29 : decode cX5_agree 29 = .ok (.getfield 18, 3) := dk_180 0 18 (dk_at dksX5_agree_1 9 rfl rfl)
theorem dX5_agree_32 : decode cX5_agree 32 = .ok (.aload_n 0, 1) := dk_42 (dk_at dksX5_agree_1 12 rfl rfl)
theorem dX5_agree_33 : decode cX5_agree 33 = .ok (.getfield 22, 3) := dk_180 0 22 (dk_at dksX5_agree_1 13 rfl rfl)
theorem dX5_agree_36 : decode cX5_agree 36 = .ok (.iload_n 2, 1) := dk_28 (dk_at dksX5_agree_1 16 rfl rfl)
theorem dX5_agree_37 : decode cX5_agree 37 = .ok (.iadd, 1) := dk_96 (dk_at dksX5_agree_1 17 rfl rfl)
theorem dX5_agree_38 : decode cX5_agree 38 = .ok (.invokeinterface 32 2, 5) := by decide +kernel
theorem dX5_agree_43 : decode cX5_agree 43 = .ok (.aload_n 1, 1) := dk_43 (dk_at dksX5_agree_1 23 rfl rfl)
theorem dX5_agree_44 : decode cX5_agree 44 = .ok (.iload_n 2, 1) := dk_28 (dk_at dksX5_agree_2 0 rfl rfl)
theorem dX5_agree_45 : decode cX5_agree 45 = .ok (.invokevirtual 39, 3) := dk_182 0 39 (dk_at dksX5_agree_2 1 rfl rfl)
theorem dX5_agree_48 : decode cX5_agree 48 = .ok (.if_icmp .ne 9, 3) := dk_160 0 9 (dk_at dksX5_agree_2 4 rfl rfl)
theorem dX5_agree_51 : decode cX5_agree 51 = .ok (.iinc 2 1, 3) := dk_132 2 1 (dk_at dksX5_agree_2 7 rfl rfl)
theorem dX5_agree_54 : decode cX5_agree 54 = .ok (.goto (-52), 3) := dk_167 255 204 (dk_at dksX5_agree_2 10 rfl rfl)
theorem dX5_agree_57 : decode cX5_agree 57 = .ok (.iload_n 2, 1) := dk_28 (dk_at dksX5_agree_2 13 rfl rfl)
theorem dX5_agree_58 : decode cX5_agree 58 = .ok (.ireturn, 1) := dk_172 (dk_at dksX5_agree_2 14 rfl rfl)
abbrev cX5_numbers : ByteArray := prog_5_method_7_code
def yX5_numbers : MethodName := ⟨RX5, "numbers", "([I)[I"⟩
def dkwX5_numbers_2 : List UInt8 := [167, 255, 218, 44, 176]
abbrev dktX5_numbers_2 : List UInt8 := dkwX5_numbers_2 ++ []
def dkwX5_numbers_1 : List UInt8 := [5, 29, 104, 4, 96, 46, 182, 0, 65, 79, 44, 29, 46, 18, 64, 160, 0, 5, 1, 176, 132, 3, 1]
abbrev dktX5_numbers_1 : List UInt8 := dkwX5_numbers_1 ++ dktX5_numbers_2
def dkwX5_numbers_0 : List UInt8 := [43, 190, 5, 108, 188, 10, 77, 3, 62, 29, 44, 190, 162, 0, 38, 44, 29, 42, 43, 5, 29, 104, 46, 43]
abbrev dktX5_numbers_0 : List UInt8 := dkwX5_numbers_0 ++ dktX5_numbers_1
theorem dksX5_numbers_0 : cX5_numbers.data.toList.drop 0 = dktX5_numbers_0 := by decide +kernel
theorem dksX5_numbers_1 : cX5_numbers.data.toList.drop 24 = dktX5_numbers_1 := dk_seg dksX5_numbers_0 24 rfl rfl
theorem dksX5_numbers_2 : cX5_numbers.data.toList.drop 47 = dktX5_numbers_2 := dk_seg dksX5_numbers_1 23 rfl rfl
theorem dX5_numbers_0 : decode cX5_numbers 0 = .ok (.aload_n 1, 1) := dk_43 (dk_at dksX5_numbers_0 0 rfl rfl)
theorem dX5_numbers_1 : decode cX5_numbers 1 = .ok (.arraylength, 1) := dk_190 (dk_at dksX5_numbers_0 1 rfl rfl)
theorem dX5_numbers_2 : decode cX5_numbers 2 = .ok (.iconst 2, 1) := dk_5 (dk_at dksX5_numbers_0 2 rfl rfl)
theorem dX5_numbers_3 : decode cX5_numbers 3 = .ok (.idiv, 1) := dk_108 (dk_at dksX5_numbers_0 3 rfl rfl)
theorem dX5_numbers_4 : decode cX5_numbers 4 = .ok (.newarray .int, 2) := dk_188_10 (dk_at dksX5_numbers_0 4 rfl rfl)
theorem dX5_numbers_6 : decode cX5_numbers 6 = .ok (.astore_n 2, 1) := dk_77 (dk_at dksX5_numbers_0 6 rfl rfl)
theorem dX5_numbers_7 : decode cX5_numbers 7 = .ok (.iconst 0, 1) := dk_3 (dk_at dksX5_numbers_0 7 rfl rfl)
theorem dX5_numbers_8 : decode cX5_numbers 8 = .ok (.istore_n 3, 1) := dk_62 (dk_at dksX5_numbers_0 8 rfl rfl)
theorem dX5_numbers_9 : decode cX5_numbers 9 = .ok (.iload_n 3, 1) := dk_29 (dk_at dksX5_numbers_0 9 rfl rfl)
theorem dX5_numbers_10 : decode cX5_numbers 10 = .ok (.aload_n 2, 1) := dk_44 (dk_at dksX5_numbers_0 10 rfl rfl)
theorem dX5_numbers_11 : decode cX5_numbers 11 = .ok (.arraylength, 1) := dk_190 (dk_at dksX5_numbers_0 11 rfl rfl)
theorem dX5_numbers_12 : decode cX5_numbers 12 = .ok (.if_icmp .ge 38, 3) := dk_162 0 38 (dk_at dksX5_numbers_0 12 rfl rfl)
theorem dX5_numbers_15 : decode cX5_numbers 15 = .ok (.aload_n 2, 1) := dk_44 (dk_at dksX5_numbers_0 15 rfl rfl)
theorem dX5_numbers_16 : decode cX5_numbers 16 = .ok (.iload_n 3, 1) := dk_29 (dk_at dksX5_numbers_0 16 rfl rfl)
theorem dX5_numbers_17 : decode cX5_numbers 17 = .ok (.aload_n 0, 1) := dk_42 (dk_at dksX5_numbers_0 17 rfl rfl)
theorem dX5_numbers_18 : decode cX5_numbers 18 = .ok (.aload_n 1, 1) := dk_43 (dk_at dksX5_numbers_0 18 rfl rfl)
theorem dX5_numbers_19 : decode cX5_numbers 19 = .ok (.iconst 2, 1) := dk_5 (dk_at dksX5_numbers_0 19 rfl rfl)
theorem dX5_numbers_20 : decode cX5_numbers 20 = .ok (.iload_n 3, 1) := dk_29 (dk_at dksX5_numbers_0 20 rfl rfl)
theorem dX5_numbers_21 : decode cX5_numbers 21 = .ok (.imul, 1) := dk_104 (dk_at dksX5_numbers_0 21 rfl rfl)
theorem dX5_numbers_22 : decode cX5_numbers 22 = .ok (.iaload, 1) := dk_46 (dk_at dksX5_numbers_0 22 rfl rfl)
theorem dX5_numbers_23 : decode cX5_numbers 23 = .ok (.aload_n 1, 1) := dk_43 (dk_at dksX5_numbers_0 23 rfl rfl)
theorem dX5_numbers_24 : decode cX5_numbers 24 = .ok (.iconst 2, 1) := dk_5 (dk_at dksX5_numbers_1 0 rfl rfl)
theorem dX5_numbers_25 : decode cX5_numbers 25 = .ok (.iload_n 3, 1) := dk_29 (dk_at dksX5_numbers_1 1 rfl rfl)
theorem dX5_numbers_26 : decode cX5_numbers 26 = .ok (.imul, 1) := dk_104 (dk_at dksX5_numbers_1 2 rfl rfl)
theorem dX5_numbers_27 : decode cX5_numbers 27 = .ok (.iconst 1, 1) := dk_4 (dk_at dksX5_numbers_1 3 rfl rfl)
theorem dX5_numbers_28 : decode cX5_numbers 28 = .ok (.iadd, 1) := dk_96 (dk_at dksX5_numbers_1 4 rfl rfl)
theorem dX5_numbers_29 : decode cX5_numbers 29 = .ok (.iaload, 1) := dk_46 (dk_at dksX5_numbers_1 5 rfl rfl)
theorem dX5_numbers_30 : decode cX5_numbers 30 = .ok (.invokevirtual 65, 3) := dk_182 0 65 (dk_at dksX5_numbers_1 6 rfl rfl)
theorem dX5_numbers_33 : decode cX5_numbers 33 = .ok (.iastore, 1) := dk_79 (dk_at dksX5_numbers_1 9 rfl rfl)
theorem dX5_numbers_34 : decode cX5_numbers 34 = .ok (.aload_n 2, 1) := dk_44 (dk_at dksX5_numbers_1 10 rfl rfl)
theorem dX5_numbers_35 : decode cX5_numbers 35 = .ok (.iload_n 3, 1) := dk_29 (dk_at dksX5_numbers_1 11 rfl rfl)
theorem dX5_numbers_36 : decode cX5_numbers 36 = .ok (.iaload, 1) := dk_46 (dk_at dksX5_numbers_1 12 rfl rfl)
theorem dX5_numbers_37 : decode cX5_numbers 37 = .ok (.ldc 64, 2) := dk_18 64 (dk_at dksX5_numbers_1 13 rfl rfl)
theorem dX5_numbers_39 : decode cX5_numbers 39 = .ok (.if_icmp .ne 5, 3) := dk_160 0 5 (dk_at dksX5_numbers_1 15 rfl rfl)
theorem dX5_numbers_42 : decode cX5_numbers 42 = .ok (.aconst_null, 1) := dk_1 (dk_at dksX5_numbers_1 18 rfl rfl)
theorem dX5_numbers_43 : decode cX5_numbers 43 = .ok (.areturn, 1) := dk_176 (dk_at dksX5_numbers_1 19 rfl rfl)
theorem dX5_numbers_44 : decode cX5_numbers 44 = .ok (.iinc 3 1, 3) := dk_132 3 1 (dk_at dksX5_numbers_1 20 rfl rfl)
theorem dX5_numbers_47 : decode cX5_numbers 47 = .ok (.goto (-38), 3) := dk_167 255 218 (dk_at dksX5_numbers_2 0 rfl rfl)
theorem dX5_numbers_50 : decode cX5_numbers 50 = .ok (.aload_n 2, 1) := dk_44 (dk_at dksX5_numbers_2 3 rfl rfl)
theorem dX5_numbers_51 : decode cX5_numbers 51 = .ok (.areturn, 1) := dk_176 (dk_at dksX5_numbers_2 4 rfl rfl)
abbrev cX5_number : ByteArray := prog_5_method_6_code
def yX5_number : MethodName := ⟨RX5, "number", "(II)I"⟩
def dkwX5_number_4 : List UInt8 := [180, 0, 22, 90, 4, 96, 181, 0, 22, 185, 0, 32, 2, 0, 96, 16, 48, 100, 62, 167, 255, 190, 29, 172]
abbrev dktX5_number_4 : List UInt8 := dkwX5_number_4 ++ []
def dkwX5_number_3 : List UInt8 := [185, 0, 32, 2, 0, 96, 16, 48, 100, 28, 163, 0, 35, 16, 10, 29, 104, 42, 180, 0, 18, 42, 89]
abbrev dktX5_number_3 : List UInt8 := dkwX5_number_3 ++ dktX5_number_4
def dkwX5_number_2 : List UInt8 := [42, 3, 182, 0, 60, 153, 0, 60, 16, 10, 29, 104, 42, 180, 0, 18, 42, 180, 0, 22]
abbrev dktX5_number_2 : List UInt8 := dkwX5_number_2 ++ dktX5_number_3
def dkwX5_number_1 : List UInt8 := [42, 89, 180, 0, 22, 90, 4, 96, 181, 0, 22, 185, 0, 32, 2, 0, 16, 48, 100, 62, 29, 158, 0, 68]
abbrev dktX5_number_1 : List UInt8 := dkwX5_number_1 ++ dktX5_number_2
def dkwX5_number_0 : List UInt8 := [42, 16, 32, 182, 0, 56, 153, 0, 11, 42, 27, 182, 0, 60, 154, 0, 6, 18, 64, 172, 42, 180, 0, 18]
abbrev dktX5_number_0 : List UInt8 := dkwX5_number_0 ++ dktX5_number_1
theorem dksX5_number_0 : cX5_number.data.toList.drop 0 = dktX5_number_0 := by decide +kernel
theorem dksX5_number_1 : cX5_number.data.toList.drop 24 = dktX5_number_1 := dk_seg dksX5_number_0 24 rfl rfl
theorem dksX5_number_2 : cX5_number.data.toList.drop 48 = dktX5_number_2 := dk_seg dksX5_number_1 24 rfl rfl
theorem dksX5_number_3 : cX5_number.data.toList.drop 68 = dktX5_number_3 := dk_seg dksX5_number_2 20 rfl rfl
theorem dksX5_number_4 : cX5_number.data.toList.drop 91 = dktX5_number_4 := dk_seg dksX5_number_3 23 rfl rfl
theorem dX5_number_0 : decode cX5_number 0 = .ok (.aload_n 0, 1) := dk_42 (dk_at dksX5_number_0 0 rfl rfl)
theorem dX5_number_1 : decode cX5_number 1 = .ok (.bipush 32, 2) := dk_16 32 (dk_at dksX5_number_0 1 rfl rfl)
theorem dX5_number_3 : decode cX5_number 3 = .ok (.invokevirtual 56, 3) := dk_182 0 56 (dk_at dksX5_number_0 3 rfl rfl)
theorem dX5_number_6 : decode cX5_number 6 = .ok (.ifCond .eq 11, 3) := dk_153 0 11 (dk_at dksX5_number_0 6 rfl rfl)
theorem dX5_number_9 : decode cX5_number 9 = .ok (.aload_n 0, 1) := dk_42 (dk_at dksX5_number_0 9 rfl rfl)
theorem dX5_number_10 : decode cX5_number 10 = .ok (.iload_n 1, 1) := dk_27 (dk_at dksX5_number_0 10 rfl rfl)
theorem dX5_number_11 : decode cX5_number 11 = .ok (.invokevirtual 60, 3) := dk_182 0 60 (dk_at dksX5_number_0 11 rfl rfl)
theorem dX5_number_14 : decode cX5_number 14 = .ok (.ifCond .ne 6, 3) := dk_154 0 6 (dk_at dksX5_number_0 14 rfl rfl)
theorem dX5_number_17 : decode cX5_number 17 = .ok (.ldc 64, 2) := dk_18 64 (dk_at dksX5_number_0 17 rfl rfl)
theorem dX5_number_19 : decode cX5_number 19 = .ok (.ireturn, 1) := dk_172 (dk_at dksX5_number_0 19 rfl rfl)
theorem dX5_number_20 : decode cX5_number 20 = .ok (.aload_n 0, 1) := dk_42 (dk_at dksX5_number_0 20 rfl rfl)
theorem dX5_number_21 : decode cX5_number 21 = .ok (.getfield 18, 3) := dk_180 0 18 (dk_at dksX5_number_0 21 rfl rfl)
theorem dX5_number_24 : decode cX5_number 24 = .ok (.aload_n 0, 1) := dk_42 (dk_at dksX5_number_1 0 rfl rfl)
theorem dX5_number_25 : decode cX5_number 25 = .ok (.dup, 1) := dk_89 (dk_at dksX5_number_1 1 rfl rfl)
theorem dX5_number_26 : decode cX5_number 26 = .ok (.getfield 22, 3) := dk_180 0 22 (dk_at dksX5_number_1 2 rfl rfl)
theorem dX5_number_29 : decode cX5_number 29 = .ok (.dup_x1, 1) := dk_90 (dk_at dksX5_number_1 5 rfl rfl)
theorem dX5_number_30 : decode cX5_number 30 = .ok (.iconst 1, 1) := dk_4 (dk_at dksX5_number_1 6 rfl rfl)
theorem dX5_number_31 : decode cX5_number 31 = .ok (.iadd, 1) := dk_96 (dk_at dksX5_number_1 7 rfl rfl)
theorem dX5_number_32 : decode cX5_number 32 = .ok (.putfield 22, 3) := dk_181 0 22 (dk_at dksX5_number_1 8 rfl rfl)
theorem dX5_number_35 : decode cX5_number 35 = .ok (.invokeinterface 32 2, 5) := by decide +kernel
theorem dX5_number_40 : decode cX5_number 40 = .ok (.bipush 48, 2) := dk_16 48 (dk_at dksX5_number_1 16 rfl rfl)
theorem dX5_number_42 : decode cX5_number 42 = .ok (.isub, 1) := dk_100 (dk_at dksX5_number_1 18 rfl rfl)
theorem dX5_number_43 : decode cX5_number 43 = .ok (.istore_n 3, 1) := dk_62 (dk_at dksX5_number_1 19 rfl rfl)
theorem dX5_number_44 : decode cX5_number 44 = .ok (.iload_n 3, 1) := dk_29 (dk_at dksX5_number_1 20 rfl rfl)
theorem dX5_number_45 : decode cX5_number 45 = .ok (.ifCond .le 68, 3) := dk_158 0 68 (dk_at dksX5_number_1 21 rfl rfl)
theorem dX5_number_48 : decode cX5_number 48 = .ok (.aload_n 0, 1) := dk_42 (dk_at dksX5_number_2 0 rfl rfl)
theorem dX5_number_49 : decode cX5_number 49 = .ok (.iconst 0, 1) := dk_3 (dk_at dksX5_number_2 1 rfl rfl)
theorem dX5_number_50 : decode cX5_number 50 = .ok (.invokevirtual 60, 3) := dk_182 0 60 (dk_at dksX5_number_2 2 rfl rfl)
theorem dX5_number_53 : decode cX5_number 53 = .ok (.ifCond .eq 60, 3) := dk_153 0 60 (dk_at dksX5_number_2 5 rfl rfl)
theorem dX5_number_56 : decode cX5_number 56 = .ok (.bipush 10, 2) := dk_16 10 (dk_at dksX5_number_2 8 rfl rfl)
theorem dX5_number_58 : decode cX5_number 58 = .ok (.iload_n 3, 1) := dk_29 (dk_at dksX5_number_2 10 rfl rfl)
theorem dX5_number_59 : decode cX5_number 59 = .ok (.imul, 1) := dk_104 (dk_at dksX5_number_2 11 rfl rfl)
theorem dX5_number_60 : decode cX5_number 60 = .ok (.aload_n 0, 1) := dk_42 (dk_at dksX5_number_2 12 rfl rfl)
theorem dX5_number_61 : decode cX5_number 61 = .ok (.getfield 18, 3) := dk_180 0 18 (dk_at dksX5_number_2 13 rfl rfl)
theorem dX5_number_64 : decode cX5_number 64 = .ok (.aload_n 0, 1) := dk_42 (dk_at dksX5_number_2 16 rfl rfl)
theorem dX5_number_65 : decode cX5_number 65 = .ok (.getfield 22, 3) := dk_180 0 22 (dk_at dksX5_number_2 17 rfl rfl)
theorem dX5_number_68 : decode cX5_number 68 = .ok (.invokeinterface 32 2, 5) := by decide +kernel
theorem dX5_number_73 : decode cX5_number 73 = .ok (.iadd, 1) := dk_96 (dk_at dksX5_number_3 5 rfl rfl)
theorem dX5_number_74 : decode cX5_number 74 = .ok (.bipush 48, 2) := dk_16 48 (dk_at dksX5_number_3 6 rfl rfl)
theorem dX5_number_76 : decode cX5_number 76 = .ok (.isub, 1) := dk_100 (dk_at dksX5_number_3 8 rfl rfl)
theorem dX5_number_77 : decode cX5_number 77 = .ok (.iload_n 2, 1) := dk_28 (dk_at dksX5_number_3 9 rfl rfl)
theorem dX5_number_78 : decode cX5_number 78 = .ok (.if_icmp .gt 35, 3) := dk_163 0 35 (dk_at dksX5_number_3 10 rfl rfl)
theorem dX5_number_81 : decode cX5_number 81 = .ok (.bipush 10, 2) := dk_16 10 (dk_at dksX5_number_3 13 rfl rfl)
theorem dX5_number_83 : decode cX5_number 83 = .ok (.iload_n 3, 1) := dk_29 (dk_at dksX5_number_3 15 rfl rfl)
theorem dX5_number_84 : decode cX5_number 84 = .ok (.imul, 1) := dk_104 (dk_at dksX5_number_3 16 rfl rfl)
theorem dX5_number_85 : decode cX5_number 85 = .ok (.aload_n 0, 1) := dk_42 (dk_at dksX5_number_3 17 rfl rfl)
theorem dX5_number_86 : decode cX5_number 86 = .ok (.getfield 18, 3) := dk_180 0 18 (dk_at dksX5_number_3 18 rfl rfl)
theorem dX5_number_89 : decode cX5_number 89 = .ok (.aload_n 0, 1) := dk_42 (dk_at dksX5_number_3 21 rfl rfl)
theorem dX5_number_90 : decode cX5_number 90 = .ok (.dup, 1) := dk_89 (dk_at dksX5_number_3 22 rfl rfl)
theorem dX5_number_91 : decode cX5_number 91 = .ok (.getfield 22, 3) := dk_180 0 22 (dk_at dksX5_number_4 0 rfl rfl)
theorem dX5_number_94 : decode cX5_number 94 = .ok (.dup_x1, 1) := dk_90 (dk_at dksX5_number_4 3 rfl rfl)
theorem dX5_number_95 : decode cX5_number 95 = .ok (.iconst 1, 1) := dk_4 (dk_at dksX5_number_4 4 rfl rfl)
theorem dX5_number_96 : decode cX5_number 96 = .ok (.iadd, 1) := dk_96 (dk_at dksX5_number_4 5 rfl rfl)
theorem dX5_number_97 : decode cX5_number 97 = .ok (.putfield 22, 3) := dk_181 0 22 (dk_at dksX5_number_4 6 rfl rfl)
theorem dX5_number_100 : decode cX5_number 100 = .ok (.invokeinterface 32 2, 5) := by decide +kernel
theorem dX5_number_105 : decode cX5_number 105 = .ok (.iadd, 1) := dk_96 (dk_at dksX5_number_4 14 rfl rfl)
theorem dX5_number_106 : decode cX5_number 106 = .ok (.bipush 48, 2) := dk_16 48 (dk_at dksX5_number_4 15 rfl rfl)
theorem dX5_number_108 : decode cX5_number 108 = .ok (.isub, 1) := dk_100 (dk_at dksX5_number_4 17 rfl rfl)
theorem dX5_number_109 : decode cX5_number 109 = .ok (.istore_n 3, 1) := dk_62 (dk_at dksX5_number_4 18 rfl rfl)
theorem dX5_number_110 : decode cX5_number 110 = .ok (.goto (-66), 3) := dk_167 255 190 (dk_at dksX5_number_4 19 rfl rfl)
theorem dX5_number_113 : decode cX5_number 113 = .ok (.iload_n 3, 1) := dk_29 (dk_at dksX5_number_4 22 rfl rfl)
theorem dX5_number_114 : decode cX5_number 114 = .ok (.ireturn, 1) := dk_172 (dk_at dksX5_number_4 23 rfl rfl)
abbrev cX5_takes : ByteArray := prog_5_method_2_code
def yX5_takes : MethodName := ⟨RX5, "takes", "(C)Z"⟩
def dkwX5_takes_2 : List UInt8 := [4, 167, 0, 4, 3, 96, 181, 0, 22, 28, 172]
abbrev dktX5_takes_2 : List UInt8 := dkwX5_takes_2 ++ []
def dkwX5_takes_1 : List UInt8 := [185, 0, 32, 2, 0, 27, 160, 0, 7, 4, 167, 0, 4, 3, 61, 42, 89, 180, 0, 22, 28, 153, 0, 7]
abbrev dktX5_takes_1 : List UInt8 := dkwX5_takes_1 ++ dktX5_takes_2
def dkwX5_takes_0 : List UInt8 := [42, 180, 0, 22, 42, 180, 0, 18, 185, 0, 26, 1, 0, 162, 0, 24, 42, 180, 0, 18, 42, 180, 0, 22]
abbrev dktX5_takes_0 : List UInt8 := dkwX5_takes_0 ++ dktX5_takes_1
theorem dksX5_takes_0 : cX5_takes.data.toList.drop 0 = dktX5_takes_0 := by decide +kernel
theorem dksX5_takes_1 : cX5_takes.data.toList.drop 24 = dktX5_takes_1 := dk_seg dksX5_takes_0 24 rfl rfl
theorem dksX5_takes_2 : cX5_takes.data.toList.drop 48 = dktX5_takes_2 := dk_seg dksX5_takes_1 24 rfl rfl
theorem dX5_takes_0 : decode cX5_takes 0 = .ok (.aload_n 0, 1) := dk_42 (dk_at dksX5_takes_0 0 rfl rfl)
theorem dX5_takes_1 : decode cX5_takes 1 = .ok (.getfield 22, 3) := dk_180 0 22 (dk_at dksX5_takes_0 1 rfl rfl)
theorem dX5_takes_4 : decode cX5_takes 4 = .ok (.aload_n 0, 1) := dk_42 (dk_at dksX5_takes_0 4 rfl rfl)
theorem dX5_takes_5 : decode cX5_takes 5 = .ok (.getfield 18, 3) := dk_180 0 18 (dk_at dksX5_takes_0 5 rfl rfl)
theorem dX5_takes_8 : decode cX5_takes 8 = .ok (.invokeinterface 26 1, 5) := by decide +kernel
theorem dX5_takes_13 : decode cX5_takes 13 = .ok (.if_icmp .ge 24, 3) := dk_162 0 24 (dk_at dksX5_takes_0 13 rfl rfl)
theorem dX5_takes_16 : decode cX5_takes 16 = .ok (.aload_n 0, 1) := dk_42 (dk_at dksX5_takes_0 16 rfl rfl)
theorem dX5_takes_17 : decode cX5_takes 17 = .ok (.getfield 18, 3) := dk_180 0 18 (dk_at dksX5_takes_0 17 rfl rfl)
theorem dX5_takes_20 : decode cX5_takes 20 = .ok (.aload_n 0, 1) := dk_42 (dk_at dksX5_takes_0 20 rfl rfl)
theorem dX5_takes_21 : decode cX5_takes 21 = .ok (.getfield 22, 3) := dk_180 0 22 (dk_at dksX5_takes_0 21 rfl rfl)
theorem dX5_takes_24 : decode cX5_takes 24 = .ok (.invokeinterface 32 2, 5) := by decide +kernel
theorem dX5_takes_29 : decode cX5_takes 29 = .ok (.iload_n 1, 1) := dk_27 (dk_at dksX5_takes_1 5 rfl rfl)
theorem dX5_takes_30 : decode cX5_takes 30 = .ok (.if_icmp .ne 7, 3) := dk_160 0 7 (dk_at dksX5_takes_1 6 rfl rfl)
theorem dX5_takes_33 : decode cX5_takes 33 = .ok (.iconst 1, 1) := dk_4 (dk_at dksX5_takes_1 9 rfl rfl)
theorem dX5_takes_34 : decode cX5_takes 34 = .ok (.goto 4, 3) := dk_167 0 4 (dk_at dksX5_takes_1 10 rfl rfl)
theorem dX5_takes_37 : decode cX5_takes 37 = .ok (.iconst 0, 1) := dk_3 (dk_at dksX5_takes_1 13 rfl rfl)
theorem dX5_takes_38 : decode cX5_takes 38 = .ok (.istore_n 2, 1) := dk_61 (dk_at dksX5_takes_1 14 rfl rfl)
theorem dX5_takes_39 : decode cX5_takes 39 = .ok (.aload_n 0, 1) := dk_42 (dk_at dksX5_takes_1 15 rfl rfl)
theorem dX5_takes_40 : decode cX5_takes 40 = .ok (.dup, 1) := dk_89 (dk_at dksX5_takes_1 16 rfl rfl)
theorem dX5_takes_41 : decode cX5_takes 41 = .ok (.getfield 22, 3) := dk_180 0 22 (dk_at dksX5_takes_1 17 rfl rfl)
theorem dX5_takes_44 : decode cX5_takes 44 = .ok (.iload_n 2, 1) := dk_28 (dk_at dksX5_takes_1 20 rfl rfl)
theorem dX5_takes_45 : decode cX5_takes 45 = .ok (.ifCond .eq 7, 3) := dk_153 0 7 (dk_at dksX5_takes_1 21 rfl rfl)
theorem dX5_takes_48 : decode cX5_takes 48 = .ok (.iconst 1, 1) := dk_4 (dk_at dksX5_takes_2 0 rfl rfl)
theorem dX5_takes_49 : decode cX5_takes 49 = .ok (.goto 4, 3) := dk_167 0 4 (dk_at dksX5_takes_2 1 rfl rfl)
theorem dX5_takes_52 : decode cX5_takes 52 = .ok (.iconst 0, 1) := dk_3 (dk_at dksX5_takes_2 4 rfl rfl)
theorem dX5_takes_53 : decode cX5_takes 53 = .ok (.iadd, 1) := dk_96 (dk_at dksX5_takes_2 5 rfl rfl)
theorem dX5_takes_54 : decode cX5_takes 54 = .ok (.putfield 22, 3) := dk_181 0 22 (dk_at dksX5_takes_2 6 rfl rfl)
theorem dX5_takes_57 : decode cX5_takes 57 = .ok (.iload_n 2, 1) := dk_28 (dk_at dksX5_takes_2 9 rfl rfl)
theorem dX5_takes_58 : decode cX5_takes 58 = .ok (.ireturn, 1) := dk_172 (dk_at dksX5_takes_2 10 rfl rfl)
abbrev cX5_isDigit : ByteArray := prog_5_method_5_code
def yX5_isDigit : MethodName := ⟨RX5, "isDigit", "(I)Z"⟩
def dkwX5_isDigit_1 : List UInt8 := [185, 0, 32, 2, 0, 16, 48, 100, 27, 16, 9, 184, 0, 52, 153, 0, 7, 4, 167, 0, 4, 3, 172]
abbrev dktX5_isDigit_1 : List UInt8 := dkwX5_isDigit_1 ++ []
def dkwX5_isDigit_0 : List UInt8 := [42, 180, 0, 22, 42, 180, 0, 18, 185, 0, 26, 1, 0, 162, 0, 32, 42, 180, 0, 18, 42, 180, 0, 22]
abbrev dktX5_isDigit_0 : List UInt8 := dkwX5_isDigit_0 ++ dktX5_isDigit_1
theorem dksX5_isDigit_0 : cX5_isDigit.data.toList.drop 0 = dktX5_isDigit_0 := by decide +kernel
theorem dksX5_isDigit_1 : cX5_isDigit.data.toList.drop 24 = dktX5_isDigit_1 := dk_seg dksX5_isDigit_0 24 rfl rfl
theorem dX5_isDigit_0 : decode cX5_isDigit 0 = .ok (.aload_n 0, 1) := dk_42 (dk_at dksX5_isDigit_0 0 rfl rfl)
theorem dX5_isDigit_1 : decode cX5_isDigit 1 = .ok (.getfield 22, 3) := dk_180 0 22 (dk_at dksX5_isDigit_0 1 rfl rfl)
theorem dX5_isDigit_4 : decode cX5_isDigit 4 = .ok (.aload_n 0, 1) := dk_42 (dk_at dksX5_isDigit_0 4 rfl rfl)
theorem dX5_isDigit_5 : decode cX5_isDigit 5 = .ok (.getfield 18, 3) := dk_180 0 18 (dk_at dksX5_isDigit_0 5 rfl rfl)
theorem dX5_isDigit_8 : decode cX5_isDigit 8 = .ok (.invokeinterface 26 1, 5) := by decide +kernel
theorem dX5_isDigit_13 : decode cX5_isDigit 13 = .ok (.if_icmp .ge 32, 3) := dk_162 0 32 (dk_at dksX5_isDigit_0 13 rfl rfl)
theorem dX5_isDigit_16 : decode cX5_isDigit 16 = .ok (.aload_n 0, 1) := dk_42 (dk_at dksX5_isDigit_0 16 rfl rfl)
theorem dX5_isDigit_17 : decode cX5_isDigit 17 = .ok (.getfield 18, 3) := dk_180 0 18 (dk_at dksX5_isDigit_0 17 rfl rfl)
theorem dX5_isDigit_20 : decode cX5_isDigit 20 = .ok (.aload_n 0, 1) := dk_42 (dk_at dksX5_isDigit_0 20 rfl rfl)
theorem dX5_isDigit_21 : decode cX5_isDigit 21 = .ok (.getfield 22, 3) := dk_180 0 22 (dk_at dksX5_isDigit_0 21 rfl rfl)
theorem dX5_isDigit_24 : decode cX5_isDigit 24 = .ok (.invokeinterface 32 2, 5) := by decide +kernel
theorem dX5_isDigit_29 : decode cX5_isDigit 29 = .ok (.bipush 48, 2) := dk_16 48 (dk_at dksX5_isDigit_1 5 rfl rfl)
theorem dX5_isDigit_31 : decode cX5_isDigit 31 = .ok (.isub, 1) := dk_100 (dk_at dksX5_isDigit_1 7 rfl rfl)
theorem dX5_isDigit_32 : decode cX5_isDigit 32 = .ok (.iload_n 1, 1) := dk_27 (dk_at dksX5_isDigit_1 8 rfl rfl)
theorem dX5_isDigit_33 : decode cX5_isDigit 33 = .ok (.bipush 9, 2) := dk_16 9 (dk_at dksX5_isDigit_1 9 rfl rfl)
theorem dX5_isDigit_35 : decode cX5_isDigit 35 = .ok (.invokestatic 52, 3) := dk_184 0 52 (dk_at dksX5_isDigit_1 11 rfl rfl)
theorem dX5_isDigit_38 : decode cX5_isDigit 38 = .ok (.ifCond .eq 7, 3) := dk_153 0 7 (dk_at dksX5_isDigit_1 14 rfl rfl)
theorem dX5_isDigit_41 : decode cX5_isDigit 41 = .ok (.iconst 1, 1) := dk_4 (dk_at dksX5_isDigit_1 17 rfl rfl)
theorem dX5_isDigit_42 : decode cX5_isDigit 42 = .ok (.goto 4, 3) := dk_167 0 4 (dk_at dksX5_isDigit_1 18 rfl rfl)
theorem dX5_isDigit_45 : decode cX5_isDigit 45 = .ok (.iconst 0, 1) := dk_3 (dk_at dksX5_isDigit_1 21 rfl rfl)
theorem dX5_isDigit_46 : decode cX5_isDigit 46 = .ok (.ireturn, 1) := dk_172 (dk_at dksX5_isDigit_1 22 rfl rfl)
abbrev cX5_kindOf : ByteArray := prog_5_method_9_code
def yX5_kindOf : MethodName := ⟨RX5, "kindOf", "(Ljava/lang/String;)I"⟩
def dkwX5_kindOf_8 : List UInt8 := [167, 0, 4, 3, 172]
abbrev dktX5_kindOf_8 : List UInt8 := dkwX5_kindOf_8 ++ []
def dkwX5_kindOf_7 : List UInt8 := [4, 167, 0, 25, 5, 167, 0, 21, 6, 167, 0, 17, 7, 167, 0, 13, 8, 167, 0, 9, 16, 6]
abbrev dktX5_kindOf_7 : List UInt8 := dkwX5_kindOf_7 ++ dktX5_kindOf_8
def dkwX5_kindOf_6 : List UInt8 := [170, 0, 0, 0, 0, 63, 0, 0, 0, 0, 0, 0, 0, 5, 0, 0, 0, 38, 0, 0, 0, 42, 0, 0, 0, 46, 0, 0, 0, 50, 0, 0, 0, 54, 0, 0, 0, 58]
abbrev dktX5_kindOf_6 : List UInt8 := dkwX5_kindOf_6 ++ dktX5_kindOf_7
def dkwX5_kindOf_5 : List UInt8 := [18, 80, 182, 0, 89, 153, 0, 5, 8, 61, 28]
abbrev dktX5_kindOf_5 : List UInt8 := dkwX5_kindOf_5 ++ dktX5_kindOf_6
def dkwX5_kindOf_4 : List UInt8 := [153, 0, 33, 6, 61, 167, 0, 28, 43, 18, 78, 182, 0, 89, 153, 0, 19, 7, 61, 167, 0, 14, 43]
abbrev dktX5_kindOf_4 : List UInt8 := dkwX5_kindOf_4 ++ dktX5_kindOf_5
def dkwX5_kindOf_3 : List UInt8 := [61, 167, 0, 56, 43, 18, 74, 182, 0, 89, 153, 0, 47, 5, 61, 167, 0, 42, 43, 18, 76, 182, 0, 89]
abbrev dktX5_kindOf_3 : List UInt8 := dkwX5_kindOf_3 ++ dktX5_kindOf_4
def dkwX5_kindOf_2 : List UInt8 := [43, 18, 70, 182, 0, 89, 153, 0, 75, 3, 61, 167, 0, 70, 43, 18, 72, 182, 0, 89, 153, 0, 61, 4]
abbrev dktX5_kindOf_2 : List UInt8 := dkwX5_kindOf_2 ++ dktX5_kindOf_3
def dkwX5_kindOf_1 : List UInt8 := [171, 0, 0, 0, 0, 0, 0, 141, 0, 0, 0, 6, 0, 0, 13, 227, 0, 0, 0, 74, 0, 1, 121, 215, 0, 0, 0, 60, 0, 1, 167, 208, 0, 0, 0, 102, 0, 1, 170, 211, 0, 0, 0, 116, 0, 1, 208, 91, 0, 0, 0, 88, 5, 176, 185, 131, 0, 0, 0, 130]
abbrev dktX5_kindOf_1 : List UInt8 := dkwX5_kindOf_1 ++ dktX5_kindOf_2
def dkwX5_kindOf_0 : List UInt8 := [42, 76, 2, 61, 43, 182, 0, 86]
abbrev dktX5_kindOf_0 : List UInt8 := dkwX5_kindOf_0 ++ dktX5_kindOf_1
theorem dksX5_kindOf_0 : cX5_kindOf.data.toList.drop 0 = dktX5_kindOf_0 := by decide +kernel
theorem dksX5_kindOf_1 : cX5_kindOf.data.toList.drop 8 = dktX5_kindOf_1 := dk_seg dksX5_kindOf_0 8 rfl rfl
theorem dksX5_kindOf_2 : cX5_kindOf.data.toList.drop 68 = dktX5_kindOf_2 := dk_seg dksX5_kindOf_1 60 rfl rfl
theorem dksX5_kindOf_3 : cX5_kindOf.data.toList.drop 92 = dktX5_kindOf_3 := dk_seg dksX5_kindOf_2 24 rfl rfl
theorem dksX5_kindOf_4 : cX5_kindOf.data.toList.drop 116 = dktX5_kindOf_4 := dk_seg dksX5_kindOf_3 24 rfl rfl
theorem dksX5_kindOf_5 : cX5_kindOf.data.toList.drop 139 = dktX5_kindOf_5 := dk_seg dksX5_kindOf_4 23 rfl rfl
theorem dksX5_kindOf_6 : cX5_kindOf.data.toList.drop 150 = dktX5_kindOf_6 := dk_seg dksX5_kindOf_5 11 rfl rfl
theorem dksX5_kindOf_7 : cX5_kindOf.data.toList.drop 188 = dktX5_kindOf_7 := dk_seg dksX5_kindOf_6 38 rfl rfl
theorem dksX5_kindOf_8 : cX5_kindOf.data.toList.drop 210 = dktX5_kindOf_8 := dk_seg dksX5_kindOf_7 22 rfl rfl
theorem dX5_kindOf_0 : decode cX5_kindOf 0 = .ok (.aload_n 0, 1) := dk_42 (dk_at dksX5_kindOf_0 0 rfl rfl)
theorem dX5_kindOf_1 : decode cX5_kindOf 1 = .ok (.astore_n 1, 1) := dk_76 (dk_at dksX5_kindOf_0 1 rfl rfl)
theorem dX5_kindOf_2 : decode cX5_kindOf 2 = .ok (.iconst (-1), 1) := dk_2 (dk_at dksX5_kindOf_0 2 rfl rfl)
theorem dX5_kindOf_3 : decode cX5_kindOf 3 = .ok (.istore_n 2, 1) := dk_61 (dk_at dksX5_kindOf_0 3 rfl rfl)
theorem dX5_kindOf_4 : decode cX5_kindOf 4 = .ok (.aload_n 1, 1) := dk_43 (dk_at dksX5_kindOf_0 4 rfl rfl)
theorem dX5_kindOf_5 : decode cX5_kindOf 5 = .ok (.invokevirtual 86, 3) := dk_182 0 86 (dk_at dksX5_kindOf_0 5 rfl rfl)
theorem dX5_kindOf_8 : decode cX5_kindOf 8 = .ok (.lookupswitch 141 #[(3555, 74), (96727, 60), (108496, 102), (109267, 116), (118875, 88), (95467907, 130)], 60) := by decide +kernel
theorem dX5_kindOf_68 : decode cX5_kindOf 68 = .ok (.aload_n 1, 1) := dk_43 (dk_at dksX5_kindOf_2 0 rfl rfl)
theorem dX5_kindOf_69 : decode cX5_kindOf 69 = .ok (.ldc 70, 2) := dk_18 70 (dk_at dksX5_kindOf_2 1 rfl rfl)
theorem dX5_kindOf_71 : decode cX5_kindOf 71 = .ok (.invokevirtual 89, 3) := dk_182 0 89 (dk_at dksX5_kindOf_2 3 rfl rfl)
theorem dX5_kindOf_74 : decode cX5_kindOf 74 = .ok (.ifCond .eq 75, 3) := dk_153 0 75 (dk_at dksX5_kindOf_2 6 rfl rfl)
theorem dX5_kindOf_77 : decode cX5_kindOf 77 = .ok (.iconst 0, 1) := dk_3 (dk_at dksX5_kindOf_2 9 rfl rfl)
theorem dX5_kindOf_78 : decode cX5_kindOf 78 = .ok (.istore_n 2, 1) := dk_61 (dk_at dksX5_kindOf_2 10 rfl rfl)
theorem dX5_kindOf_79 : decode cX5_kindOf 79 = .ok (.goto 70, 3) := dk_167 0 70 (dk_at dksX5_kindOf_2 11 rfl rfl)
theorem dX5_kindOf_82 : decode cX5_kindOf 82 = .ok (.aload_n 1, 1) := dk_43 (dk_at dksX5_kindOf_2 14 rfl rfl)
theorem dX5_kindOf_83 : decode cX5_kindOf 83 = .ok (.ldc 72, 2) := dk_18 72 (dk_at dksX5_kindOf_2 15 rfl rfl)
theorem dX5_kindOf_85 : decode cX5_kindOf 85 = .ok (.invokevirtual 89, 3) := dk_182 0 89 (dk_at dksX5_kindOf_2 17 rfl rfl)
theorem dX5_kindOf_88 : decode cX5_kindOf 88 = .ok (.ifCond .eq 61, 3) := dk_153 0 61 (dk_at dksX5_kindOf_2 20 rfl rfl)
theorem dX5_kindOf_91 : decode cX5_kindOf 91 = .ok (.iconst 1, 1) := dk_4 (dk_at dksX5_kindOf_2 23 rfl rfl)
theorem dX5_kindOf_92 : decode cX5_kindOf 92 = .ok (.istore_n 2, 1) := dk_61 (dk_at dksX5_kindOf_3 0 rfl rfl)
theorem dX5_kindOf_93 : decode cX5_kindOf 93 = .ok (.goto 56, 3) := dk_167 0 56 (dk_at dksX5_kindOf_3 1 rfl rfl)
theorem dX5_kindOf_96 : decode cX5_kindOf 96 = .ok (.aload_n 1, 1) := dk_43 (dk_at dksX5_kindOf_3 4 rfl rfl)
theorem dX5_kindOf_97 : decode cX5_kindOf 97 = .ok (.ldc 74, 2) := dk_18 74 (dk_at dksX5_kindOf_3 5 rfl rfl)
theorem dX5_kindOf_99 : decode cX5_kindOf 99 = .ok (.invokevirtual 89, 3) := dk_182 0 89 (dk_at dksX5_kindOf_3 7 rfl rfl)
theorem dX5_kindOf_102 : decode cX5_kindOf 102 = .ok (.ifCond .eq 47, 3) := dk_153 0 47 (dk_at dksX5_kindOf_3 10 rfl rfl)
theorem dX5_kindOf_105 : decode cX5_kindOf 105 = .ok (.iconst 2, 1) := dk_5 (dk_at dksX5_kindOf_3 13 rfl rfl)
theorem dX5_kindOf_106 : decode cX5_kindOf 106 = .ok (.istore_n 2, 1) := dk_61 (dk_at dksX5_kindOf_3 14 rfl rfl)
theorem dX5_kindOf_107 : decode cX5_kindOf 107 = .ok (.goto 42, 3) := dk_167 0 42 (dk_at dksX5_kindOf_3 15 rfl rfl)
theorem dX5_kindOf_110 : decode cX5_kindOf 110 = .ok (.aload_n 1, 1) := dk_43 (dk_at dksX5_kindOf_3 18 rfl rfl)
theorem dX5_kindOf_111 : decode cX5_kindOf 111 = .ok (.ldc 76, 2) := dk_18 76 (dk_at dksX5_kindOf_3 19 rfl rfl)
theorem dX5_kindOf_113 : decode cX5_kindOf 113 = .ok (.invokevirtual 89, 3) := dk_182 0 89 (dk_at dksX5_kindOf_3 21 rfl rfl)
theorem dX5_kindOf_116 : decode cX5_kindOf 116 = .ok (.ifCond .eq 33, 3) := dk_153 0 33 (dk_at dksX5_kindOf_4 0 rfl rfl)
theorem dX5_kindOf_119 : decode cX5_kindOf 119 = .ok (.iconst 3, 1) := dk_6 (dk_at dksX5_kindOf_4 3 rfl rfl)
theorem dX5_kindOf_120 : decode cX5_kindOf 120 = .ok (.istore_n 2, 1) := dk_61 (dk_at dksX5_kindOf_4 4 rfl rfl)
theorem dX5_kindOf_121 : decode cX5_kindOf 121 = .ok (.goto 28, 3) := dk_167 0 28 (dk_at dksX5_kindOf_4 5 rfl rfl)
theorem dX5_kindOf_124 : decode cX5_kindOf 124 = .ok (.aload_n 1, 1) := dk_43 (dk_at dksX5_kindOf_4 8 rfl rfl)
theorem dX5_kindOf_125 : decode cX5_kindOf 125 = .ok (.ldc 78, 2) := dk_18 78 (dk_at dksX5_kindOf_4 9 rfl rfl)
theorem dX5_kindOf_127 : decode cX5_kindOf 127 = .ok (.invokevirtual 89, 3) := dk_182 0 89 (dk_at dksX5_kindOf_4 11 rfl rfl)
theorem dX5_kindOf_130 : decode cX5_kindOf 130 = .ok (.ifCond .eq 19, 3) := dk_153 0 19 (dk_at dksX5_kindOf_4 14 rfl rfl)
theorem dX5_kindOf_133 : decode cX5_kindOf 133 = .ok (.iconst 4, 1) := dk_7 (dk_at dksX5_kindOf_4 17 rfl rfl)
theorem dX5_kindOf_134 : decode cX5_kindOf 134 = .ok (.istore_n 2, 1) := dk_61 (dk_at dksX5_kindOf_4 18 rfl rfl)
theorem dX5_kindOf_135 : decode cX5_kindOf 135 = .ok (.goto 14, 3) := dk_167 0 14 (dk_at dksX5_kindOf_4 19 rfl rfl)
theorem dX5_kindOf_138 : decode cX5_kindOf 138 = .ok (.aload_n 1, 1) := dk_43 (dk_at dksX5_kindOf_4 22 rfl rfl)
theorem dX5_kindOf_139 : decode cX5_kindOf 139 = .ok (.ldc 80, 2) := dk_18 80 (dk_at dksX5_kindOf_5 0 rfl rfl)
theorem dX5_kindOf_141 : decode cX5_kindOf 141 = .ok (.invokevirtual 89, 3) := dk_182 0 89 (dk_at dksX5_kindOf_5 2 rfl rfl)
theorem dX5_kindOf_144 : decode cX5_kindOf 144 = .ok (.ifCond .eq 5, 3) := dk_153 0 5 (dk_at dksX5_kindOf_5 5 rfl rfl)
theorem dX5_kindOf_147 : decode cX5_kindOf 147 = .ok (.iconst 5, 1) := dk_8 (dk_at dksX5_kindOf_5 8 rfl rfl)
theorem dX5_kindOf_148 : decode cX5_kindOf 148 = .ok (.istore_n 2, 1) := dk_61 (dk_at dksX5_kindOf_5 9 rfl rfl)
theorem dX5_kindOf_149 : decode cX5_kindOf 149 = .ok (.iload_n 2, 1) := dk_28 (dk_at dksX5_kindOf_5 10 rfl rfl)
theorem dX5_kindOf_150 : decode cX5_kindOf 150 = .ok (.tableswitch 63 0 5 #[38, 42, 46, 50, 54, 58], 38) := by decide +kernel
theorem dX5_kindOf_188 : decode cX5_kindOf 188 = .ok (.iconst 1, 1) := dk_4 (dk_at dksX5_kindOf_7 0 rfl rfl)
theorem dX5_kindOf_189 : decode cX5_kindOf 189 = .ok (.goto 25, 3) := dk_167 0 25 (dk_at dksX5_kindOf_7 1 rfl rfl)
theorem dX5_kindOf_192 : decode cX5_kindOf 192 = .ok (.iconst 2, 1) := dk_5 (dk_at dksX5_kindOf_7 4 rfl rfl)
theorem dX5_kindOf_193 : decode cX5_kindOf 193 = .ok (.goto 21, 3) := dk_167 0 21 (dk_at dksX5_kindOf_7 5 rfl rfl)
theorem dX5_kindOf_196 : decode cX5_kindOf 196 = .ok (.iconst 3, 1) := dk_6 (dk_at dksX5_kindOf_7 8 rfl rfl)
theorem dX5_kindOf_197 : decode cX5_kindOf 197 = .ok (.goto 17, 3) := dk_167 0 17 (dk_at dksX5_kindOf_7 9 rfl rfl)
theorem dX5_kindOf_200 : decode cX5_kindOf 200 = .ok (.iconst 4, 1) := dk_7 (dk_at dksX5_kindOf_7 12 rfl rfl)
theorem dX5_kindOf_201 : decode cX5_kindOf 201 = .ok (.goto 13, 3) := dk_167 0 13 (dk_at dksX5_kindOf_7 13 rfl rfl)
theorem dX5_kindOf_204 : decode cX5_kindOf 204 = .ok (.iconst 5, 1) := dk_8 (dk_at dksX5_kindOf_7 16 rfl rfl)
theorem dX5_kindOf_205 : decode cX5_kindOf 205 = .ok (.goto 9, 3) := dk_167 0 9 (dk_at dksX5_kindOf_7 17 rfl rfl)
theorem dX5_kindOf_208 : decode cX5_kindOf 208 = .ok (.bipush 6, 2) := dk_16 6 (dk_at dksX5_kindOf_7 20 rfl rfl)
theorem dX5_kindOf_210 : decode cX5_kindOf 210 = .ok (.goto 4, 3) := dk_167 0 4 (dk_at dksX5_kindOf_8 0 rfl rfl)
theorem dX5_kindOf_213 : decode cX5_kindOf 213 = .ok (.iconst 0, 1) := dk_3 (dk_at dksX5_kindOf_8 3 rfl rfl)
theorem dX5_kindOf_214 : decode cX5_kindOf 214 = .ok (.ireturn, 1) := dk_172 (dk_at dksX5_kindOf_8 4 rfl rfl)
theorem q62 : (Jvm.Cond.initialized "ShareStreams$Reader") ∈ lw_all := lw_g (lw_at lw_m1 19 rfl) rfl
theorem q267 : (Jvm.Cond.selects "ShareStreams$Reader" ({ cls := "java/lang/Object", name := "getClass", desc := "()Ljava/lang/Class;" } : Jvm.MethodName) ({ cls := "java/lang/Object", name := "getClass", desc := "()Ljava/lang/Class;" } : Jvm.MethodName)) ∈ lw_all := lw_g (lw_at lw_m1 224 rfl) rfl
theorem q382 : (Jvm.Cond.instantiable "ShareStreams$Reader" (3 : Nat)) ∈ lw_all := lw_g (lw_at lw_m2 99 rfl) rfl
theorem q384 : (Jvm.Cond.instanceMethod ({ cls := "ShareStreams$Reader", name := "<init>", desc := "(Ljava/lang/CharSequence;)V" } : Jvm.MethodName)) ∈ lw_all := lw_g (lw_at lw_m2 101 rfl) rfl
theorem q385 : (Jvm.Cond.code ({ cls := "ShareStreams$Reader", name := "<init>", desc := "(Ljava/lang/CharSequence;)V" } : Jvm.MethodName) prog_5_method_1_code (2 : Nat) (Option.none : Option Jvm.ClassFile.FieldType)) ∈ lw_all := lw_g (lw_at lw_m2 102 rfl) rfl
theorem q386 : (Jvm.Cond.methodLink "ShareStreams$Reader" (3 : Nat) ({ cls := "java/lang/Object", name := "<init>", desc := "()V" } : Jvm.MethodName)) ∈ lw_all := lw_g (lw_at lw_m2 103 rfl) rfl
theorem q387 : (Jvm.Cond.classLink "ShareStreams$Reader" (9 : Nat) "java/util/ArrayList") ∈ lw_all := lw_g (lw_at lw_m2 104 rfl) rfl
theorem q388 : (Jvm.Cond.methodLink "ShareStreams$Reader" (11 : Nat) ({ cls := "java/util/ArrayList", name := "<init>", desc := "()V" } : Jvm.MethodName)) ∈ lw_all := lw_g (lw_at lw_m2 105 rfl) rfl
theorem q389 : (Jvm.Cond.fieldLink "ShareStreams$Reader" (18 : Nat) "ShareStreams$Reader" "signs" "Ljava/lang/CharSequence;") ∈ lw_all := lw_g (lw_at lw_m2 106 rfl) rfl
theorem q390 : (Jvm.Cond.fieldLink "ShareStreams$Reader" (12 : Nat) "ShareStreams$Reader" "lines" "Ljava/util/List;") ∈ lw_all := lw_g (lw_at lw_m2 107 rfl) rfl
theorem q392 : (Jvm.Cond.fieldLink "ShareStreams$Reader" (22 : Nat) "ShareStreams$Reader" "place" "I") ∈ lw_all := lw_g (lw_at lw_m2 109 rfl) rfl
theorem q394 : (Jvm.Cond.laysFinal "ShareStreams$Reader" "ShareStreams$Reader" "signs" "Ljava/lang/CharSequence;") ∈ lw_all := lw_g (lw_at lw_m2 111 rfl) rfl
theorem q395 : (Jvm.Cond.soleField "ShareStreams$Reader" "signs") ∈ lw_all := lw_g (lw_at lw_m2 112 rfl) rfl
theorem q396 : (Jvm.Cond.laysFinal "ShareStreams$Reader" "ShareStreams$Reader" "lines" "Ljava/util/List;") ∈ lw_all := lw_g (lw_at lw_m2 113 rfl) rfl
theorem q397 : (Jvm.Cond.soleField "ShareStreams$Reader" "lines") ∈ lw_all := lw_g (lw_at lw_m2 114 rfl) rfl
theorem q398 : (Jvm.Cond.lays "ShareStreams$Reader" "ShareStreams$Reader" "place" "I") ∈ lw_all := lw_g (lw_at lw_m2 115 rfl) rfl
theorem q399 : (Jvm.Cond.soleField "ShareStreams$Reader" "place") ∈ lw_all := lw_g (lw_at lw_m2 116 rfl) rfl
theorem q400 : (Jvm.Cond.superclass "ShareStreams$Reader" "java/lang/Object") ∈ lw_all := lw_g (lw_at lw_m2 117 rfl) rfl
theorem q402 : (Jvm.Cond.instanceMethod ({ cls := "ShareStreams$Reader", name := "reads", desc := "()Z" } : Jvm.MethodName)) ∈ lw_all := lw_g (lw_at lw_m2 119 rfl) rfl
theorem q403 : (Jvm.Cond.selects "ShareStreams$Reader" ({ cls := "ShareStreams$Reader", name := "reads", desc := "()Z" } : Jvm.MethodName) ({ cls := "ShareStreams$Reader", name := "reads", desc := "()Z" } : Jvm.MethodName)) ∈ lw_all := lw_g (lw_at lw_m2 120 rfl) rfl
theorem q404 : (Jvm.Cond.code ({ cls := "ShareStreams$Reader", name := "reads", desc := "()Z" } : Jvm.MethodName) prog_5_method_10_code (1 : Nat) (Option.some Jvm.ClassFile.FieldType.boolean)) ∈ lw_all := lw_g (lw_at lw_m2 121 rfl) rfl
theorem q405 : (Jvm.Cond.methodLink "ShareStreams$Reader" (110 : Nat) ({ cls := "ShareStreams$Reader", name := "line", desc := "()Z" } : Jvm.MethodName)) ∈ lw_all := lw_g (lw_at lw_m2 122 rfl) rfl
theorem q406 : (Jvm.Cond.privateMethod ({ cls := "ShareStreams$Reader", name := "line", desc := "()Z" } : Jvm.MethodName)) ∈ lw_tbl := lw_at lw_m2 123 rfl
theorem q407 : (Jvm.Cond.instanceMethod ({ cls := "ShareStreams$Reader", name := "line", desc := "()Z" } : Jvm.MethodName)) ∈ lw_all := lw_g (lw_at lw_m2 124 rfl) rfl
theorem q408 : (Jvm.Cond.code ({ cls := "ShareStreams$Reader", name := "line", desc := "()Z" } : Jvm.MethodName) prog_5_method_8_code (6 : Nat) (Option.some Jvm.ClassFile.FieldType.boolean)) ∈ lw_all := lw_g (lw_at lw_m2 125 rfl) rfl
theorem q409 : (Jvm.Cond.classLink "ShareStreams$Reader" (37 : Nat) "java/lang/String") ∈ lw_all := lw_g (lw_at lw_m2 126 rfl) rfl
theorem q411 : (Jvm.Cond.stringRef "ShareStreams$Reader" (68 : Nat) "source") ∈ lw_tbl := lw_at lw_m2 128 rfl
theorem q412 : (Jvm.Cond.stringRef "ShareStreams$Reader" (70 : Nat) "and") ∈ lw_tbl := lw_at lw_m2 129 rfl
theorem q413 : (Jvm.Cond.stringRef "ShareStreams$Reader" (72 : Nat) "or") ∈ lw_tbl := lw_at lw_m2 130 rfl
theorem q414 : (Jvm.Cond.stringRef "ShareStreams$Reader" (74 : Nat) "xor") ∈ lw_tbl := lw_at lw_m2 131 rfl
theorem q415 : (Jvm.Cond.stringRef "ShareStreams$Reader" (76 : Nat) "mux") ∈ lw_tbl := lw_at lw_m2 132 rfl
theorem q416 : (Jvm.Cond.stringRef "ShareStreams$Reader" (78 : Nat) "not") ∈ lw_tbl := lw_at lw_m2 133 rfl
theorem q417 : (Jvm.Cond.stringRef "ShareStreams$Reader" (80 : Nat) "delay") ∈ lw_tbl := lw_at lw_m2 134 rfl
theorem q418 : (Jvm.Cond.methodLink "ShareStreams$Reader" (82 : Nat) ({ cls := "ShareStreams$Reader", name := "word", desc := "([Ljava/lang/String;)Ljava/lang/String;" } : Jvm.MethodName)) ∈ lw_all := lw_g (lw_at lw_m2 135 rfl) rfl
theorem q419 : (Jvm.Cond.privateMethod ({ cls := "ShareStreams$Reader", name := "word", desc := "([Ljava/lang/String;)Ljava/lang/String;" } : Jvm.MethodName)) ∈ lw_tbl := lw_at lw_m2 136 rfl
theorem q420 : (Jvm.Cond.instanceMethod ({ cls := "ShareStreams$Reader", name := "word", desc := "([Ljava/lang/String;)Ljava/lang/String;" } : Jvm.MethodName)) ∈ lw_all := lw_g (lw_at lw_m2 137 rfl) rfl
theorem q421 : (Jvm.Cond.code ({ cls := "ShareStreams$Reader", name := "word", desc := "([Ljava/lang/String;)Ljava/lang/String;" } : Jvm.MethodName) prog_5_method_4_code (5 : Nat) (Option.some (Jvm.ClassFile.FieldType.object "java/lang/String"))) ∈ lw_all := lw_g (lw_at lw_m2 138 rfl) rfl
theorem q422 : (Jvm.Cond.methodLink "ShareStreams$Reader" (40 : Nat) ({ cls := "ShareStreams$Reader", name := "agree", desc := "(Ljava/lang/String;)I" } : Jvm.MethodName)) ∈ lw_all := lw_g (lw_at lw_m2 139 rfl) rfl
theorem q423 : (Jvm.Cond.privateMethod ({ cls := "ShareStreams$Reader", name := "agree", desc := "(Ljava/lang/String;)I" } : Jvm.MethodName)) ∈ lw_tbl := lw_at lw_m2 140 rfl
theorem q424 : (Jvm.Cond.instanceMethod ({ cls := "ShareStreams$Reader", name := "agree", desc := "(Ljava/lang/String;)I" } : Jvm.MethodName)) ∈ lw_all := lw_g (lw_at lw_m2 141 rfl) rfl
theorem q425 : (Jvm.Cond.code ({ cls := "ShareStreams$Reader", name := "agree", desc := "(Ljava/lang/String;)I" } : Jvm.MethodName) prog_5_method_3_code (3 : Nat) (Option.some Jvm.ClassFile.FieldType.int)) ∈ lw_all := lw_g (lw_at lw_m2 142 rfl) rfl
theorem q426 : (Jvm.Cond.methodLink "ShareStreams$Reader" (36 : Nat) ({ cls := "java/lang/String", name := "length", desc := "()I" } : Jvm.MethodName)) ∈ lw_all := lw_g (lw_at lw_m2 143 rfl) rfl
theorem q435 : (Jvm.Cond.interfaceEntry "ShareStreams$Reader" (26 : Nat)) ∈ lw_tbl := lw_at lw_m2 152 rfl
theorem q436 : (Jvm.Cond.methodLink "ShareStreams$Reader" (26 : Nat) ({ cls := "java/lang/CharSequence", name := "length", desc := "()I" } : Jvm.MethodName)) ∈ lw_all := lw_g (lw_at lw_m2 153 rfl) rfl
theorem q452 : (Jvm.Cond.interfaceEntry "ShareStreams$Reader" (32 : Nat)) ∈ lw_tbl := lw_at lw_m2 169 rfl
theorem q453 : (Jvm.Cond.methodLink "ShareStreams$Reader" (32 : Nat) ({ cls := "java/lang/CharSequence", name := "charAt", desc := "(I)C" } : Jvm.MethodName)) ∈ lw_all := lw_g (lw_at lw_m2 170 rfl) rfl
theorem q504 : (Jvm.Cond.methodLink "ShareStreams$Reader" (39 : Nat) ({ cls := "java/lang/String", name := "charAt", desc := "(I)C" } : Jvm.MethodName)) ∈ lw_all := lw_g (lw_at lw_m2 221 rfl) rfl
theorem q505 : (Jvm.Cond.methodLink "ShareStreams$Reader" (44 : Nat) ({ cls := "java/lang/Math", name := "max", desc := "(II)I" } : Jvm.MethodName)) ∈ lw_all := lw_g (lw_at lw_m2 222 rfl) rfl
theorem q506 : (Jvm.Cond.stringRef "ShareStreams$Reader" (50 : Nat) "") ∈ lw_tbl := lw_at lw_m2 223 rfl
theorem q507 : (Jvm.Cond.methodLink "ShareStreams$Reader" (86 : Nat) ({ cls := "java/lang/String", name := "hashCode", desc := "()I" } : Jvm.MethodName)) ∈ lw_all := lw_g (lw_at lw_m2 224 rfl) rfl
theorem q556 : (Jvm.Cond.methodLink "ShareStreams$Reader" (89 : Nat) ({ cls := "java/lang/String", name := "equals", desc := "(Ljava/lang/Object;)Z" } : Jvm.MethodName)) ∈ lw_all := lw_g (lw_at lw_m3 33 rfl) rfl
theorem q564 : (Jvm.Cond.methodLink "ShareStreams$Reader" (93 : Nat) ({ cls := "ShareStreams$Reader", name := "numbers", desc := "([I)[I" } : Jvm.MethodName)) ∈ lw_all := lw_g (lw_at lw_m3 41 rfl) rfl
theorem q565 : (Jvm.Cond.privateMethod ({ cls := "ShareStreams$Reader", name := "numbers", desc := "([I)[I" } : Jvm.MethodName)) ∈ lw_tbl := lw_at lw_m3 42 rfl
theorem q566 : (Jvm.Cond.instanceMethod ({ cls := "ShareStreams$Reader", name := "numbers", desc := "([I)[I" } : Jvm.MethodName)) ∈ lw_all := lw_g (lw_at lw_m3 43 rfl) rfl
theorem q567 : (Jvm.Cond.code ({ cls := "ShareStreams$Reader", name := "numbers", desc := "([I)[I" } : Jvm.MethodName) prog_5_method_7_code (4 : Nat) (Option.some (Jvm.ClassFile.FieldType.array Jvm.ClassFile.FieldType.int))) ∈ lw_all := lw_g (lw_at lw_m3 44 rfl) rfl
theorem q568 : (Jvm.Cond.methodLink "ShareStreams$Reader" (65 : Nat) ({ cls := "ShareStreams$Reader", name := "number", desc := "(II)I" } : Jvm.MethodName)) ∈ lw_all := lw_g (lw_at lw_m3 45 rfl) rfl
theorem q569 : (Jvm.Cond.privateMethod ({ cls := "ShareStreams$Reader", name := "number", desc := "(II)I" } : Jvm.MethodName)) ∈ lw_tbl := lw_at lw_m3 46 rfl
theorem q570 : (Jvm.Cond.instanceMethod ({ cls := "ShareStreams$Reader", name := "number", desc := "(II)I" } : Jvm.MethodName)) ∈ lw_all := lw_g (lw_at lw_m3 47 rfl) rfl
theorem q571 : (Jvm.Cond.code ({ cls := "ShareStreams$Reader", name := "number", desc := "(II)I" } : Jvm.MethodName) prog_5_method_6_code (4 : Nat) (Option.some Jvm.ClassFile.FieldType.int)) ∈ lw_all := lw_g (lw_at lw_m3 48 rfl) rfl
theorem q572 : (Jvm.Cond.methodLink "ShareStreams$Reader" (56 : Nat) ({ cls := "ShareStreams$Reader", name := "takes", desc := "(C)Z" } : Jvm.MethodName)) ∈ lw_all := lw_g (lw_at lw_m3 49 rfl) rfl
theorem q573 : (Jvm.Cond.privateMethod ({ cls := "ShareStreams$Reader", name := "takes", desc := "(C)Z" } : Jvm.MethodName)) ∈ lw_tbl := lw_at lw_m3 50 rfl
theorem q574 : (Jvm.Cond.instanceMethod ({ cls := "ShareStreams$Reader", name := "takes", desc := "(C)Z" } : Jvm.MethodName)) ∈ lw_all := lw_g (lw_at lw_m3 51 rfl) rfl
theorem q575 : (Jvm.Cond.code ({ cls := "ShareStreams$Reader", name := "takes", desc := "(C)Z" } : Jvm.MethodName) prog_5_method_2_code (3 : Nat) (Option.some Jvm.ClassFile.FieldType.boolean)) ∈ lw_all := lw_g (lw_at lw_m3 52 rfl) rfl
theorem q576 : (Jvm.Cond.methodLink "ShareStreams$Reader" (60 : Nat) ({ cls := "ShareStreams$Reader", name := "isDigit", desc := "(I)Z" } : Jvm.MethodName)) ∈ lw_all := lw_g (lw_at lw_m3 53 rfl) rfl
theorem q577 : (Jvm.Cond.privateMethod ({ cls := "ShareStreams$Reader", name := "isDigit", desc := "(I)Z" } : Jvm.MethodName)) ∈ lw_tbl := lw_at lw_m3 54 rfl
theorem q578 : (Jvm.Cond.instanceMethod ({ cls := "ShareStreams$Reader", name := "isDigit", desc := "(I)Z" } : Jvm.MethodName)) ∈ lw_all := lw_g (lw_at lw_m3 55 rfl) rfl
theorem q579 : (Jvm.Cond.code ({ cls := "ShareStreams$Reader", name := "isDigit", desc := "(I)Z" } : Jvm.MethodName) prog_5_method_5_code (2 : Nat) (Option.some Jvm.ClassFile.FieldType.boolean)) ∈ lw_all := lw_g (lw_at lw_m3 56 rfl) rfl
theorem q580 : (Jvm.Cond.methodLinkNest "ShareStreams$Reader" (52 : Nat) ({ cls := "ShareStreams", name := "inRange", desc := "(III)Z" } : Jvm.MethodName) "ShareStreams") ∈ lw_tbl := lw_at lw_m3 57 rfl
theorem q581 : (Jvm.Cond.constant "ShareStreams$Reader" (64 : Nat) (-100000005 : Int32)) ∈ lw_all := lw_g (lw_at lw_m3 58 rfl) rfl
theorem q582 : (Jvm.Cond.classLink "ShareStreams$Reader" (97 : Nat) "ShareStreams$Plain") ∈ lw_all := lw_g (lw_at lw_m3 59 rfl) rfl
theorem q583 : (Jvm.Cond.methodLink "ShareStreams$Reader" (99 : Nat) ({ cls := "ShareStreams$Reader", name := "kindOf", desc := "(Ljava/lang/String;)I" } : Jvm.MethodName)) ∈ lw_all := lw_g (lw_at lw_m3 60 rfl) rfl
theorem q584 : (Jvm.Cond.static ({ cls := "ShareStreams$Reader", name := "kindOf", desc := "(Ljava/lang/String;)I" } : Jvm.MethodName)) ∈ lw_all := lw_g (lw_at lw_m3 61 rfl) rfl
theorem q585 : (Jvm.Cond.code ({ cls := "ShareStreams$Reader", name := "kindOf", desc := "(Ljava/lang/String;)I" } : Jvm.MethodName) prog_5_method_9_code (3 : Nat) (Option.some Jvm.ClassFile.FieldType.int)) ∈ lw_all := lw_g (lw_at lw_m3 62 rfl) rfl
theorem q586 : (Jvm.Cond.methodLink "ShareStreams$Reader" (102 : Nat) ({ cls := "ShareStreams$Plain", name := "<init>", desc := "(I[I)V" } : Jvm.MethodName)) ∈ lw_all := lw_g (lw_at lw_m3 63 rfl) rfl
theorem q587 : (Jvm.Cond.interfaceEntry "ShareStreams$Reader" (105 : Nat)) ∈ lw_tbl := lw_at lw_m3 64 rfl
theorem q588 : (Jvm.Cond.methodLink "ShareStreams$Reader" (105 : Nat) ({ cls := "java/util/List", name := "add", desc := "(Ljava/lang/Object;)Z" } : Jvm.MethodName)) ∈ lw_all := lw_g (lw_at lw_m3 65 rfl) rfl
theorem q1241 : (Jvm.Cond.castable "ShareStreams$Reader" "java/lang/Object") ∈ lw_tbl := lw_at lw_m5 238 rfl
theorem in_X5 : ∀ w ∈ wsX50, w ∈ lw_all := lw_in wsX50 [394, 396, 398] (by decide +kernel) (by decide +kernel)
/-! ShareStreams$Run -/
set_option maxRecDepth 100000
def RX6 : String := "ShareStreams$Run"
def TX6 : u_T := fun k => match k with
  | 0 => ("ShareStreams$Run", "lines", "Ljava/util/List;", true)
  | 1 => ("ShareStreams$Run", "registers", "[I", true)
  | 2 => ("ShareStreams$Run", "latest", "[B", true)
  | _ => ("ShareStreams$Run", "tick", "I", false)
def tyX6 : Nat → FieldType := fun k => match k with
  | 0 => .object "java/util/List"
  | 1 => .array .int
  | 2 => .array .byte
  | _ => .int
abbrev wsX60 : List Cond := u_ws RX6 TX6 4
theorem nmX6 : ∀ a, a < 4 → ∀ b, b < 4 → a ≠ b → (TX6 a).2.1 ≠ (TX6 b).2.1 := by decide +kernel
theorem tyX6_ok : ∀ k, k < 4 → parseFieldDescriptor (TX6 k).2.2.1 = some (tyX6 k) := by decide +kernel
abbrev cX6_init : ByteArray := prog_6_method_1_code
def yX6_init : MethodName := ⟨RX6, "<init>", "(LShareStreams$Bench;)V"⟩
def dkwX6_init_1 : List UInt8 := [180, 0, 19, 181, 0, 25, 42, 182, 0, 26, 177]
abbrev dktX6_init_1 : List UInt8 := dkwX6_init_1 ++ []
def dkwX6_init_0 : List UInt8 := [42, 183, 0, 3, 42, 16, 16, 188, 10, 181, 0, 9, 42, 17, 4, 0, 188, 8, 181, 0, 15, 42, 43]
abbrev dktX6_init_0 : List UInt8 := dkwX6_init_0 ++ dktX6_init_1
theorem dksX6_init_0 : cX6_init.data.toList.drop 0 = dktX6_init_0 := by decide +kernel
theorem dksX6_init_1 : cX6_init.data.toList.drop 23 = dktX6_init_1 := dk_seg dksX6_init_0 23 rfl rfl
theorem dX6_init_0 : decode cX6_init 0 = .ok (.aload_n 0, 1) := dk_42 (dk_at dksX6_init_0 0 rfl rfl)
theorem dX6_init_1 : decode cX6_init 1 = .ok (.invokespecial 3, 3) := dk_183 0 3 (dk_at dksX6_init_0 1 rfl rfl)
theorem dX6_init_4 : decode cX6_init 4 = .ok (.aload_n 0, 1) := dk_42 (dk_at dksX6_init_0 4 rfl rfl)
theorem dX6_init_5 : decode cX6_init 5 = .ok (.bipush 16, 2) := dk_16 16 (dk_at dksX6_init_0 5 rfl rfl)
theorem dX6_init_7 : decode cX6_init 7 = .ok (.newarray .int, 2) := dk_188_10 (dk_at dksX6_init_0 7 rfl rfl)
theorem dX6_init_9 : decode cX6_init 9 = .ok (.putfield 9, 3) := dk_181 0 9 (dk_at dksX6_init_0 9 rfl rfl)
theorem dX6_init_12 : decode cX6_init 12 = .ok (.aload_n 0, 1) := dk_42 (dk_at dksX6_init_0 12 rfl rfl)
theorem dX6_init_13 : decode cX6_init 13 = .ok (.sipush 1024, 3) := dk_17 4 0 (dk_at dksX6_init_0 13 rfl rfl)
theorem dX6_init_16 : decode cX6_init 16 = .ok (.newarray .byte, 2) := dk_188_8 (dk_at dksX6_init_0 16 rfl rfl)
theorem dX6_init_18 : decode cX6_init 18 = .ok (.putfield 15, 3) := dk_181 0 15 (dk_at dksX6_init_0 18 rfl rfl)
theorem dX6_init_21 : decode cX6_init 21 = .ok (.aload_n 0, 1) := dk_42 (dk_at dksX6_init_0 21 rfl rfl)
theorem dX6_init_22 : decode cX6_init 22 = .ok (.aload_n 1, 1) := dk_43 (dk_at dksX6_init_0 22 rfl rfl)
theorem dX6_init_23 : decode cX6_init 23 = .ok (.getfield 19, 3) := dk_180 0 19 (dk_at dksX6_init_1 0 rfl rfl)
theorem dX6_init_26 : decode cX6_init 26 = .ok (.putfield 25, 3) := dk_181 0 25 (dk_at dksX6_init_1 3 rfl rfl)
theorem dX6_init_29 : decode cX6_init 29 = .ok (.aload_n 0, 1) := dk_42 (dk_at dksX6_init_1 6 rfl rfl)
theorem dX6_init_30 : decode cX6_init 30 = .ok (.invokevirtual 26, 3) := dk_182 0 26 (dk_at dksX6_init_1 7 rfl rfl)
theorem dX6_init_33 : decode cX6_init 33 = .ok (.return_, 1) := dk_177 (dk_at dksX6_init_1 10 rfl rfl)
abbrev cX6_begin : ByteArray := prog_6_method_2_code
def yX6_begin : MethodName := ⟨RX6, "begin", "()V"⟩
def dkwX6_begin_3 : List UInt8 := [167, 255, 194, 177]
abbrev dktX6_begin_3 : List UInt8 := dkwX6_begin_3 ++ []
def dkwX6_begin_2 : List UInt8 := [180, 0, 25, 27, 185, 0, 39, 2, 0, 192, 0, 43, 4, 185, 0, 48, 2, 0, 79, 132, 1, 1]
abbrev dktX6_begin_2 : List UInt8 := dkwX6_begin_2 ++ dktX6_begin_3
def dkwX6_begin_1 : List UInt8 := [27, 185, 0, 39, 2, 0, 192, 0, 43, 185, 0, 45, 1, 0, 154, 0, 28, 42, 180, 0, 9, 27, 42]
abbrev dktX6_begin_1 : List UInt8 := dkwX6_begin_1 ++ dktX6_begin_2
def dkwX6_begin_0 : List UInt8 := [42, 3, 181, 0, 29, 3, 60, 27, 42, 180, 0, 25, 185, 0, 33, 1, 0, 162, 0, 55, 42, 180, 0, 25]
abbrev dktX6_begin_0 : List UInt8 := dkwX6_begin_0 ++ dktX6_begin_1
theorem dksX6_begin_0 : cX6_begin.data.toList.drop 0 = dktX6_begin_0 := by decide +kernel
theorem dksX6_begin_1 : cX6_begin.data.toList.drop 24 = dktX6_begin_1 := dk_seg dksX6_begin_0 24 rfl rfl
theorem dksX6_begin_2 : cX6_begin.data.toList.drop 47 = dktX6_begin_2 := dk_seg dksX6_begin_1 23 rfl rfl
theorem dksX6_begin_3 : cX6_begin.data.toList.drop 69 = dktX6_begin_3 := dk_seg dksX6_begin_2 22 rfl rfl
theorem dX6_begin_0 : decode cX6_begin 0 = .ok (.aload_n 0, 1) := dk_42 (dk_at dksX6_begin_0 0 rfl rfl)
theorem dX6_begin_1 : decode cX6_begin 1 = .ok (.iconst 0, 1) := dk_3 (dk_at dksX6_begin_0 1 rfl rfl)
theorem dX6_begin_2 : decode cX6_begin 2 = .ok (.putfield 29, 3) := dk_181 0 29 (dk_at dksX6_begin_0 2 rfl rfl)
theorem dX6_begin_5 : decode cX6_begin 5 = .ok (.iconst 0, 1) := dk_3 (dk_at dksX6_begin_0 5 rfl rfl)
theorem dX6_begin_6 : decode cX6_begin 6 = .ok (.istore_n 1, 1) := dk_60 (dk_at dksX6_begin_0 6 rfl rfl)
theorem dX6_begin_7 : decode cX6_begin 7 = .ok (.iload_n 1, 1) := dk_27 (dk_at dksX6_begin_0 7 rfl rfl)
theorem dX6_begin_8 : decode cX6_begin 8 = .ok (.aload_n 0, 1) := dk_42 (dk_at dksX6_begin_0 8 rfl rfl)
theorem dX6_begin_9 : decode cX6_begin 9 = .ok (.getfield 25, 3) := dk_180 0 25 (dk_at dksX6_begin_0 9 rfl rfl)
theorem dX6_begin_12 : decode cX6_begin 12 = .ok (.invokeinterface 33 1, 5) := by decide +kernel
theorem dX6_begin_17 : decode cX6_begin 17 = .ok (.if_icmp .ge 55, 3) := dk_162 0 55 (dk_at dksX6_begin_0 17 rfl rfl)
theorem dX6_begin_20 : decode cX6_begin 20 = .ok (.aload_n 0, 1) := dk_42 (dk_at dksX6_begin_0 20 rfl rfl)
theorem dX6_begin_21 : decode cX6_begin 21 = .ok (.getfield 25, 3) := dk_180 0 25 (dk_at dksX6_begin_0 21 rfl rfl)
theorem dX6_begin_24 : decode cX6_begin 24 = .ok (.iload_n 1, 1) := dk_27 (dk_at dksX6_begin_1 0 rfl rfl)
theorem dX6_begin_25 : decode cX6_begin 25 = .ok (.invokeinterface 39 2, 5) := by decide +kernel
theorem dX6_begin_30 : decode cX6_begin 30 = .ok (.checkcast 43, 3) := dk_192 0 43 (dk_at dksX6_begin_1 6 rfl rfl)
theorem dX6_begin_33 : decode cX6_begin 33 = .ok (.invokeinterface 45 1, 5) := by decide +kernel
theorem dX6_begin_38 : decode cX6_begin 38 = .ok (.ifCond .ne 28, 3) := dk_154 0 28 (dk_at dksX6_begin_1 14 rfl rfl)
theorem dX6_begin_41 : decode cX6_begin 41 = .ok (.aload_n 0, 1) := dk_42 (dk_at dksX6_begin_1 17 rfl rfl)
theorem dX6_begin_42 : decode cX6_begin 42 = .ok (.getfield 9, 3) := dk_180 0 9 (dk_at dksX6_begin_1 18 rfl rfl)
theorem dX6_begin_45 : decode cX6_begin 45 = .ok (.iload_n 1, 1) := dk_27 (dk_at dksX6_begin_1 21 rfl rfl)
theorem dX6_begin_46 : decode cX6_begin 46 = .ok (.aload_n 0, 1) := dk_42 (dk_at dksX6_begin_1 22 rfl rfl)
theorem dX6_begin_47 : decode cX6_begin 47 = .ok (.getfield 25, 3) := dk_180 0 25 (dk_at dksX6_begin_2 0 rfl rfl)
theorem dX6_begin_50 : decode cX6_begin 50 = .ok (.iload_n 1, 1) := dk_27 (dk_at dksX6_begin_2 3 rfl rfl)
theorem dX6_begin_51 : decode cX6_begin 51 = .ok (.invokeinterface 39 2, 5) := by decide +kernel
theorem dX6_begin_56 : decode cX6_begin 56 = .ok (.checkcast 43, 3) := dk_192 0 43 (dk_at dksX6_begin_2 9 rfl rfl)
theorem dX6_begin_59 : decode cX6_begin 59 = .ok (.iconst 1, 1) := dk_4 (dk_at dksX6_begin_2 12 rfl rfl)
theorem dX6_begin_60 : decode cX6_begin 60 = .ok (.invokeinterface 48 2, 5) := by decide +kernel
theorem dX6_begin_65 : decode cX6_begin 65 = .ok (.iastore, 1) := dk_79 (dk_at dksX6_begin_2 18 rfl rfl)
theorem dX6_begin_66 : decode cX6_begin 66 = .ok (.iinc 1 1, 3) := dk_132 1 1 (dk_at dksX6_begin_2 19 rfl rfl)
theorem dX6_begin_69 : decode cX6_begin 69 = .ok (.goto (-62), 3) := dk_167 255 194 (dk_at dksX6_begin_3 0 rfl rfl)
theorem dX6_begin_72 : decode cX6_begin 72 = .ok (.return_, 1) := dk_177 (dk_at dksX6_begin_3 3 rfl rfl)
abbrev cX6_count : ByteArray := prog_6_method_3_code
def yX6_count : MethodName := ⟨RX6, "count", "(II)I"⟩
def dkwX6_count_1 : List UInt8 := [132, 4, 1, 167, 255, 235, 29, 172]
abbrev dktX6_count_1 : List UInt8 := dkwX6_count_1 ++ []
def dkwX6_count_0 : List UInt8 := [3, 62, 3, 54, 4, 21, 4, 28, 162, 0, 21, 42, 182, 0, 52, 29, 42, 27, 182, 0, 55, 96, 62]
abbrev dktX6_count_0 : List UInt8 := dkwX6_count_0 ++ dktX6_count_1
theorem dksX6_count_0 : cX6_count.data.toList.drop 0 = dktX6_count_0 := by decide +kernel
theorem dksX6_count_1 : cX6_count.data.toList.drop 23 = dktX6_count_1 := dk_seg dksX6_count_0 23 rfl rfl
theorem dX6_count_0 : decode cX6_count 0 = .ok (.iconst 0, 1) := dk_3 (dk_at dksX6_count_0 0 rfl rfl)
theorem dX6_count_1 : decode cX6_count 1 = .ok (.istore_n 3, 1) := dk_62 (dk_at dksX6_count_0 1 rfl rfl)
theorem dX6_count_2 : decode cX6_count 2 = .ok (.iconst 0, 1) := dk_3 (dk_at dksX6_count_0 2 rfl rfl)
theorem dX6_count_3 : decode cX6_count 3 = .ok (.istore 4, 2) := dk_54 4 (dk_at dksX6_count_0 3 rfl rfl)
theorem dX6_count_5 : decode cX6_count 5 = .ok (.iload 4, 2) := dk_21 4 (dk_at dksX6_count_0 5 rfl rfl)
theorem dX6_count_7 : decode cX6_count 7 = .ok (.iload_n 2, 1) := dk_28 (dk_at dksX6_count_0 7 rfl rfl)
theorem dX6_count_8 : decode cX6_count 8 = .ok (.if_icmp .ge 21, 3) := dk_162 0 21 (dk_at dksX6_count_0 8 rfl rfl)
theorem dX6_count_11 : decode cX6_count 11 = .ok (.aload_n 0, 1) := dk_42 (dk_at dksX6_count_0 11 rfl rfl)
theorem dX6_count_12 : decode cX6_count 12 = .ok (.invokevirtual 52, 3) := dk_182 0 52 (dk_at dksX6_count_0 12 rfl rfl)
theorem dX6_count_15 : decode cX6_count 15 = .ok (.iload_n 3, 1) := dk_29 (dk_at dksX6_count_0 15 rfl rfl)
theorem dX6_count_16 : decode cX6_count 16 = .ok (.aload_n 0, 1) := dk_42 (dk_at dksX6_count_0 16 rfl rfl)
theorem dX6_count_17 : decode cX6_count 17 = .ok (.iload_n 1, 1) := dk_27 (dk_at dksX6_count_0 17 rfl rfl)
theorem dX6_count_18 : decode cX6_count 18 = .ok (.invokevirtual 55, 3) := dk_182 0 55 (dk_at dksX6_count_0 18 rfl rfl)
theorem dX6_count_21 : decode cX6_count 21 = .ok (.iadd, 1) := dk_96 (dk_at dksX6_count_0 21 rfl rfl)
theorem dX6_count_22 : decode cX6_count 22 = .ok (.istore_n 3, 1) := dk_62 (dk_at dksX6_count_0 22 rfl rfl)
theorem dX6_count_23 : decode cX6_count 23 = .ok (.iinc 4 1, 3) := dk_132 4 1 (dk_at dksX6_count_1 0 rfl rfl)
theorem dX6_count_26 : decode cX6_count 26 = .ok (.goto (-21), 3) := dk_167 255 235 (dk_at dksX6_count_1 3 rfl rfl)
theorem dX6_count_29 : decode cX6_count 29 = .ok (.iload_n 3, 1) := dk_29 (dk_at dksX6_count_1 6 rfl rfl)
theorem dX6_count_30 : decode cX6_count 30 = .ok (.ireturn, 1) := dk_172 (dk_at dksX6_count_1 7 rfl rfl)
abbrev cX6_step : ByteArray := prog_6_method_7_code
def yX6_step : MethodName := ⟨RX6, "step", "()V"⟩
def dkwX6_step_3 : List UInt8 := [145, 84, 132, 1, 1, 167, 255, 185, 42, 89, 180, 0, 29, 4, 96, 181, 0, 29, 177]
abbrev dktX6_step_3 : List UInt8 := dkwX6_step_3 ++ []
def dkwX6_step_2 : List UInt8 := [96, 44, 185, 0, 45, 1, 0, 154, 0, 12, 42, 27, 44, 182, 0, 72, 167, 0, 8, 42, 44, 182, 0, 76]
abbrev dktX6_step_2 : List UInt8 := dkwX6_step_2 ++ dktX6_step_3
def dkwX6_step_1 : List UInt8 := [185, 0, 39, 2, 0, 192, 0, 43, 77, 42, 180, 0, 15, 16, 64, 27, 104, 42, 180, 0, 29, 16, 64, 112]
abbrev dktX6_step_1 : List UInt8 := dkwX6_step_1 ++ dktX6_step_2
def dkwX6_step_0 : List UInt8 := [3, 60, 27, 42, 180, 0, 25, 185, 0, 33, 1, 0, 162, 0, 64, 42, 180, 0, 25, 27]
abbrev dktX6_step_0 : List UInt8 := dkwX6_step_0 ++ dktX6_step_1
theorem dksX6_step_0 : cX6_step.data.toList.drop 0 = dktX6_step_0 := by decide +kernel
theorem dksX6_step_1 : cX6_step.data.toList.drop 20 = dktX6_step_1 := dk_seg dksX6_step_0 20 rfl rfl
theorem dksX6_step_2 : cX6_step.data.toList.drop 44 = dktX6_step_2 := dk_seg dksX6_step_1 24 rfl rfl
theorem dksX6_step_3 : cX6_step.data.toList.drop 68 = dktX6_step_3 := dk_seg dksX6_step_2 24 rfl rfl
theorem dX6_step_0 : decode cX6_step 0 = .ok (.iconst 0, 1) := dk_3 (dk_at dksX6_step_0 0 rfl rfl)
theorem dX6_step_1 : decode cX6_step 1 = .ok (.istore_n 1, 1) := dk_60 (dk_at dksX6_step_0 1 rfl rfl)
theorem dX6_step_2 : decode cX6_step 2 = .ok (.iload_n 1, 1) := dk_27 (dk_at dksX6_step_0 2 rfl rfl)
theorem dX6_step_3 : decode cX6_step 3 = .ok (.aload_n 0, 1) := dk_42 (dk_at dksX6_step_0 3 rfl rfl)
theorem dX6_step_4 : decode cX6_step 4 = .ok (.getfield 25, 3) := dk_180 0 25 (dk_at dksX6_step_0 4 rfl rfl)
theorem dX6_step_7 : decode cX6_step 7 = .ok (.invokeinterface 33 1, 5) := by decide +kernel
theorem dX6_step_12 : decode cX6_step 12 = .ok (.if_icmp .ge 64, 3) := dk_162 0 64 (dk_at dksX6_step_0 12 rfl rfl)
theorem dX6_step_15 : decode cX6_step 15 = .ok (.aload_n 0, 1) := dk_42 (dk_at dksX6_step_0 15 rfl rfl)
theorem dX6_step_16 : decode cX6_step 16 = .ok (.getfield 25, 3) := dk_180 0 25 (dk_at dksX6_step_0 16 rfl rfl)
theorem dX6_step_19 : decode cX6_step 19 = .ok (.iload_n 1, 1) := dk_27 (dk_at dksX6_step_0 19 rfl rfl)
theorem dX6_step_20 : decode cX6_step 20 = .ok (.invokeinterface 39 2, 5) := by decide +kernel
theorem dX6_step_25 : decode cX6_step 25 = .ok (.checkcast 43, 3) := dk_192 0 43 (dk_at dksX6_step_1 5 rfl rfl)
theorem dX6_step_28 : decode cX6_step 28 = .ok (.astore_n 2, 1) := dk_77 (dk_at dksX6_step_1 8 rfl rfl)
theorem dX6_step_29 : decode cX6_step 29 = .ok (.aload_n 0, 1) := dk_42 (dk_at dksX6_step_1 9 rfl rfl)
theorem dX6_step_30 : decode cX6_step 30 = .ok (.getfield 15, 3) := dk_180 0 15 (dk_at dksX6_step_1 10 rfl rfl)
theorem dX6_step_33 : decode cX6_step 33 = .ok (.bipush 64, 2) := dk_16 64 (dk_at dksX6_step_1 13 rfl rfl)
theorem dX6_step_35 : decode cX6_step 35 = .ok (.iload_n 1, 1) := dk_27 (dk_at dksX6_step_1 15 rfl rfl)
theorem dX6_step_36 : decode cX6_step 36 = .ok (.imul, 1) := dk_104 (dk_at dksX6_step_1 16 rfl rfl)
theorem dX6_step_37 : decode cX6_step 37 = .ok (.aload_n 0, 1) := dk_42 (dk_at dksX6_step_1 17 rfl rfl)
theorem dX6_step_38 : decode cX6_step 38 = .ok (.getfield 29, 3) := dk_180 0 29 (dk_at dksX6_step_1 18 rfl rfl)
theorem dX6_step_41 : decode cX6_step 41 = .ok (.bipush 64, 2) := dk_16 64 (dk_at dksX6_step_1 21 rfl rfl)
theorem dX6_step_43 : decode cX6_step 43 = .ok (.irem, 1) := dk_112 (dk_at dksX6_step_1 23 rfl rfl)
theorem dX6_step_44 : decode cX6_step 44 = .ok (.iadd, 1) := dk_96 (dk_at dksX6_step_2 0 rfl rfl)
theorem dX6_step_45 : decode cX6_step 45 = .ok (.aload_n 2, 1) := dk_44 (dk_at dksX6_step_2 1 rfl rfl)
theorem dX6_step_46 : decode cX6_step 46 = .ok (.invokeinterface 45 1, 5) := by decide +kernel
theorem dX6_step_51 : decode cX6_step 51 = .ok (.ifCond .ne 12, 3) := dk_154 0 12 (dk_at dksX6_step_2 7 rfl rfl)
theorem dX6_step_54 : decode cX6_step 54 = .ok (.aload_n 0, 1) := dk_42 (dk_at dksX6_step_2 10 rfl rfl)
theorem dX6_step_55 : decode cX6_step 55 = .ok (.iload_n 1, 1) := dk_27 (dk_at dksX6_step_2 11 rfl rfl)
theorem dX6_step_56 : decode cX6_step 56 = .ok (.aload_n 2, 1) := dk_44 (dk_at dksX6_step_2 12 rfl rfl)
theorem dX6_step_57 : decode cX6_step 57 = .ok (.invokevirtual 72, 3) := dk_182 0 72 (dk_at dksX6_step_2 13 rfl rfl)
theorem dX6_step_60 : decode cX6_step 60 = .ok (.goto 8, 3) := dk_167 0 8 (dk_at dksX6_step_2 16 rfl rfl)
theorem dX6_step_63 : decode cX6_step 63 = .ok (.aload_n 0, 1) := dk_42 (dk_at dksX6_step_2 19 rfl rfl)
theorem dX6_step_64 : decode cX6_step 64 = .ok (.aload_n 2, 1) := dk_44 (dk_at dksX6_step_2 20 rfl rfl)
theorem dX6_step_65 : decode cX6_step 65 = .ok (.invokevirtual 76, 3) := dk_182 0 76 (dk_at dksX6_step_2 21 rfl rfl)
theorem dX6_step_68 : decode cX6_step 68 = .ok (.i2b, 1) := dk_145 (dk_at dksX6_step_3 0 rfl rfl)
theorem dX6_step_69 : decode cX6_step 69 = .ok (.bastore, 1) := dk_84 (dk_at dksX6_step_3 1 rfl rfl)
theorem dX6_step_70 : decode cX6_step 70 = .ok (.iinc 1 1, 3) := dk_132 1 1 (dk_at dksX6_step_3 2 rfl rfl)
theorem dX6_step_73 : decode cX6_step 73 = .ok (.goto (-71), 3) := dk_167 255 185 (dk_at dksX6_step_3 5 rfl rfl)
theorem dX6_step_76 : decode cX6_step 76 = .ok (.aload_n 0, 1) := dk_42 (dk_at dksX6_step_3 8 rfl rfl)
theorem dX6_step_77 : decode cX6_step 77 = .ok (.dup, 1) := dk_89 (dk_at dksX6_step_3 9 rfl rfl)
theorem dX6_step_78 : decode cX6_step 78 = .ok (.getfield 29, 3) := dk_180 0 29 (dk_at dksX6_step_3 10 rfl rfl)
theorem dX6_step_81 : decode cX6_step 81 = .ok (.iconst 1, 1) := dk_4 (dk_at dksX6_step_3 13 rfl rfl)
theorem dX6_step_82 : decode cX6_step 82 = .ok (.iadd, 1) := dk_96 (dk_at dksX6_step_3 14 rfl rfl)
theorem dX6_step_83 : decode cX6_step 83 = .ok (.putfield 29, 3) := dk_181 0 29 (dk_at dksX6_step_3 15 rfl rfl)
theorem dX6_step_86 : decode cX6_step 86 = .ok (.return_, 1) := dk_177 (dk_at dksX6_step_3 18 rfl rfl)
abbrev cX6_source : ByteArray := prog_6_method_5_code
def yX6_source : MethodName := ⟨RX6, "source", "(ILShareStreams$Line;)I"⟩
def dkwX6_source_1 : List UInt8 := [185, 0, 48, 2, 0, 163, 0, 7, 4, 167, 0, 4, 3, 172]
abbrev dktX6_source_1 : List UInt8 := dkwX6_source_1 ++ []
def dkwX6_source_0 : List UInt8 := [42, 180, 0, 9, 27, 46, 62, 42, 180, 0, 9, 27, 29, 184, 0, 58, 79, 29, 44, 3]
abbrev dktX6_source_0 : List UInt8 := dkwX6_source_0 ++ dktX6_source_1
theorem dksX6_source_0 : cX6_source.data.toList.drop 0 = dktX6_source_0 := by decide +kernel
theorem dksX6_source_1 : cX6_source.data.toList.drop 20 = dktX6_source_1 := dk_seg dksX6_source_0 20 rfl rfl
theorem dX6_source_0 : decode cX6_source 0 = .ok (.aload_n 0, 1) := dk_42 (dk_at dksX6_source_0 0 rfl rfl)
theorem dX6_source_1 : decode cX6_source 1 = .ok (.getfield 9, 3) := dk_180 0 9 (dk_at dksX6_source_0 1 rfl rfl)
theorem dX6_source_4 : decode cX6_source 4 = .ok (.iload_n 1, 1) := dk_27 (dk_at dksX6_source_0 4 rfl rfl)
theorem dX6_source_5 : decode cX6_source 5 = .ok (.iaload, 1) := dk_46 (dk_at dksX6_source_0 5 rfl rfl)
theorem dX6_source_6 : decode cX6_source 6 = .ok (.istore_n 3, 1) := dk_62 (dk_at dksX6_source_0 6 rfl rfl)
theorem dX6_source_7 : decode cX6_source 7 = .ok (.aload_n 0, 1) := dk_42 (dk_at dksX6_source_0 7 rfl rfl)
theorem dX6_source_8 : decode cX6_source 8 = .ok (.getfield 9, 3) := dk_180 0 9 (dk_at dksX6_source_0 8 rfl rfl)
theorem dX6_source_11 : decode cX6_source 11 = .ok (.iload_n 1, 1) := dk_27 (dk_at dksX6_source_0 11 rfl rfl)
theorem dX6_source_12 : decode cX6_source 12 = .ok (.iload_n 3, 1) := dk_29 (dk_at dksX6_source_0 12 rfl rfl)
theorem dX6_source_13 : decode cX6_source 13 = .ok (.invokestatic 58, 3) := dk_184 0 58 (dk_at dksX6_source_0 13 rfl rfl)
theorem dX6_source_16 : decode cX6_source 16 = .ok (.iastore, 1) := dk_79 (dk_at dksX6_source_0 16 rfl rfl)
theorem dX6_source_17 : decode cX6_source 17 = .ok (.iload_n 3, 1) := dk_29 (dk_at dksX6_source_0 17 rfl rfl)
theorem dX6_source_18 : decode cX6_source 18 = .ok (.aload_n 2, 1) := dk_44 (dk_at dksX6_source_0 18 rfl rfl)
theorem dX6_source_19 : decode cX6_source 19 = .ok (.iconst 0, 1) := dk_3 (dk_at dksX6_source_0 19 rfl rfl)
theorem dX6_source_20 : decode cX6_source 20 = .ok (.invokeinterface 48 2, 5) := by decide +kernel
theorem dX6_source_25 : decode cX6_source 25 = .ok (.if_icmp .gt 7, 3) := dk_163 0 7 (dk_at dksX6_source_1 5 rfl rfl)
theorem dX6_source_28 : decode cX6_source 28 = .ok (.iconst 1, 1) := dk_4 (dk_at dksX6_source_1 8 rfl rfl)
theorem dX6_source_29 : decode cX6_source 29 = .ok (.goto 4, 3) := dk_167 0 4 (dk_at dksX6_source_1 9 rfl rfl)
theorem dX6_source_32 : decode cX6_source 32 = .ok (.iconst 0, 1) := dk_3 (dk_at dksX6_source_1 12 rfl rfl)
theorem dX6_source_33 : decode cX6_source 33 = .ok (.ireturn, 1) := dk_172 (dk_at dksX6_source_1 13 rfl rfl)
abbrev cX6_made : ByteArray := prog_6_method_6_code
def yX6_made : MethodName := ⟨RX6, "made", "(LShareStreams$Line;)I"⟩
def dkwX6_made_4 : List UInt8 := [180, 0, 29, 28, 100, 182, 0, 65, 29, 21, 4, 185, 0, 69, 4, 0, 172]
abbrev dktX6_made_4 : List UInt8 := dkwX6_made_4 ++ []
def dkwX6_made_3 : List UInt8 := [180, 0, 29, 182, 0, 65, 167, 0, 4, 3, 54, 4, 43, 42, 43, 3, 185, 0, 48, 2, 0, 42]
abbrev dktX6_made_3 : List UInt8 := dkwX6_made_3 ++ dktX6_made_4
def dkwX6_made_2 : List UInt8 := [167, 0, 4, 3, 62, 43, 5, 185, 0, 61, 2, 0, 153, 0, 21, 42, 43, 5, 185, 0, 48, 2, 0, 42]
abbrev dktX6_made_2 : List UInt8 := dkwX6_made_2 ++ dktX6_made_3
def dkwX6_made_1 : List UInt8 := [4, 185, 0, 61, 2, 0, 153, 0, 21, 42, 43, 4, 185, 0, 48, 2, 0, 42, 180, 0, 29, 182, 0, 65]
abbrev dktX6_made_1 : List UInt8 := dkwX6_made_1 ++ dktX6_made_2
def dkwX6_made_0 : List UInt8 := [43, 185, 0, 45, 1, 0, 16, 6, 160, 0, 13, 43, 4, 185, 0, 48, 2, 0, 167, 0, 4, 3, 61, 43]
abbrev dktX6_made_0 : List UInt8 := dkwX6_made_0 ++ dktX6_made_1
theorem dksX6_made_0 : cX6_made.data.toList.drop 0 = dktX6_made_0 := by decide +kernel
theorem dksX6_made_1 : cX6_made.data.toList.drop 24 = dktX6_made_1 := dk_seg dksX6_made_0 24 rfl rfl
theorem dksX6_made_2 : cX6_made.data.toList.drop 48 = dktX6_made_2 := dk_seg dksX6_made_1 24 rfl rfl
theorem dksX6_made_3 : cX6_made.data.toList.drop 72 = dktX6_made_3 := dk_seg dksX6_made_2 24 rfl rfl
theorem dksX6_made_4 : cX6_made.data.toList.drop 94 = dktX6_made_4 := dk_seg dksX6_made_3 22 rfl rfl
theorem dX6_made_0 : decode cX6_made 0 = .ok (.aload_n 1, 1) := dk_43 (dk_at dksX6_made_0 0 rfl rfl)
theorem dX6_made_1 : decode cX6_made 1 = .ok (.invokeinterface 45 1, 5) := by decide +kernel
theorem dX6_made_6 : decode cX6_made 6 = .ok (.bipush 6, 2) := dk_16 6 (dk_at dksX6_made_0 6 rfl rfl)
theorem dX6_made_8 : decode cX6_made 8 = .ok (.if_icmp .ne 13, 3) := dk_160 0 13 (dk_at dksX6_made_0 8 rfl rfl)
theorem dX6_made_11 : decode cX6_made 11 = .ok (.aload_n 1, 1) := dk_43 (dk_at dksX6_made_0 11 rfl rfl)
theorem dX6_made_12 : decode cX6_made 12 = .ok (.iconst 1, 1) := dk_4 (dk_at dksX6_made_0 12 rfl rfl)
theorem dX6_made_13 : decode cX6_made 13 = .ok (.invokeinterface 48 2, 5) := by decide +kernel
theorem dX6_made_18 : decode cX6_made 18 = .ok (.goto 4, 3) := dk_167 0 4 (dk_at dksX6_made_0 18 rfl rfl)
theorem dX6_made_21 : decode cX6_made 21 = .ok (.iconst 0, 1) := dk_3 (dk_at dksX6_made_0 21 rfl rfl)
theorem dX6_made_22 : decode cX6_made 22 = .ok (.istore_n 2, 1) := dk_61 (dk_at dksX6_made_0 22 rfl rfl)
theorem dX6_made_23 : decode cX6_made 23 = .ok (.aload_n 1, 1) := dk_43 (dk_at dksX6_made_0 23 rfl rfl)
theorem dX6_made_24 : decode cX6_made 24 = .ok (.iconst 1, 1) := dk_4 (dk_at dksX6_made_1 0 rfl rfl)
theorem dX6_made_25 : decode cX6_made 25 = .ok (.invokeinterface 61 2, 5) := by decide +kernel
theorem dX6_made_30 : decode cX6_made 30 = .ok (.ifCond .eq 21, 3) := dk_153 0 21 (dk_at dksX6_made_1 6 rfl rfl)
theorem dX6_made_33 : decode cX6_made 33 = .ok (.aload_n 0, 1) := dk_42 (dk_at dksX6_made_1 9 rfl rfl)
theorem dX6_made_34 : decode cX6_made 34 = .ok (.aload_n 1, 1) := dk_43 (dk_at dksX6_made_1 10 rfl rfl)
theorem dX6_made_35 : decode cX6_made 35 = .ok (.iconst 1, 1) := dk_4 (dk_at dksX6_made_1 11 rfl rfl)
theorem dX6_made_36 : decode cX6_made 36 = .ok (.invokeinterface 48 2, 5) := by decide +kernel
theorem dX6_made_41 : decode cX6_made 41 = .ok (.aload_n 0, 1) := dk_42 (dk_at dksX6_made_1 17 rfl rfl)
theorem dX6_made_42 : decode cX6_made 42 = .ok (.getfield 29, 3) := dk_180 0 29 (dk_at dksX6_made_1 18 rfl rfl)
theorem dX6_made_45 : decode cX6_made 45 = .ok (.invokevirtual 65, 3) := dk_182 0 65 (dk_at dksX6_made_1 21 rfl rfl)
theorem dX6_made_48 : decode cX6_made 48 = .ok (.goto 4, 3) := dk_167 0 4 (dk_at dksX6_made_2 0 rfl rfl)
theorem dX6_made_51 : decode cX6_made 51 = .ok (.iconst 0, 1) := dk_3 (dk_at dksX6_made_2 3 rfl rfl)
theorem dX6_made_52 : decode cX6_made 52 = .ok (.istore_n 3, 1) := dk_62 (dk_at dksX6_made_2 4 rfl rfl)
theorem dX6_made_53 : decode cX6_made 53 = .ok (.aload_n 1, 1) := dk_43 (dk_at dksX6_made_2 5 rfl rfl)
theorem dX6_made_54 : decode cX6_made 54 = .ok (.iconst 2, 1) := dk_5 (dk_at dksX6_made_2 6 rfl rfl)
theorem dX6_made_55 : decode cX6_made 55 = .ok (.invokeinterface 61 2, 5) := by decide +kernel
theorem dX6_made_60 : decode cX6_made 60 = .ok (.ifCond .eq 21, 3) := dk_153 0 21 (dk_at dksX6_made_2 12 rfl rfl)
theorem dX6_made_63 : decode cX6_made 63 = .ok (.aload_n 0, 1) := dk_42 (dk_at dksX6_made_2 15 rfl rfl)
theorem dX6_made_64 : decode cX6_made 64 = .ok (.aload_n 1, 1) := dk_43 (dk_at dksX6_made_2 16 rfl rfl)
theorem dX6_made_65 : decode cX6_made 65 = .ok (.iconst 2, 1) := dk_5 (dk_at dksX6_made_2 17 rfl rfl)
theorem dX6_made_66 : decode cX6_made 66 = .ok (.invokeinterface 48 2, 5) := by decide +kernel
theorem dX6_made_71 : decode cX6_made 71 = .ok (.aload_n 0, 1) := dk_42 (dk_at dksX6_made_2 23 rfl rfl)
theorem dX6_made_72 : decode cX6_made 72 = .ok (.getfield 29, 3) := dk_180 0 29 (dk_at dksX6_made_3 0 rfl rfl)
theorem dX6_made_75 : decode cX6_made 75 = .ok (.invokevirtual 65, 3) := dk_182 0 65 (dk_at dksX6_made_3 3 rfl rfl)
theorem dX6_made_78 : decode cX6_made 78 = .ok (.goto 4, 3) := dk_167 0 4 (dk_at dksX6_made_3 6 rfl rfl)
theorem dX6_made_81 : decode cX6_made 81 = .ok (.iconst 0, 1) := dk_3 (dk_at dksX6_made_3 9 rfl rfl)
theorem dX6_made_82 : decode cX6_made 82 = .ok (.istore 4, 2) := dk_54 4 (dk_at dksX6_made_3 10 rfl rfl)
theorem dX6_made_84 : decode cX6_made 84 = .ok (.aload_n 1, 1) := dk_43 (dk_at dksX6_made_3 12 rfl rfl)
theorem dX6_made_85 : decode cX6_made 85 = .ok (.aload_n 0, 1) := dk_42 (dk_at dksX6_made_3 13 rfl rfl)
theorem dX6_made_86 : decode cX6_made 86 = .ok (.aload_n 1, 1) := dk_43 (dk_at dksX6_made_3 14 rfl rfl)
theorem dX6_made_87 : decode cX6_made 87 = .ok (.iconst 0, 1) := dk_3 (dk_at dksX6_made_3 15 rfl rfl)
theorem dX6_made_88 : decode cX6_made 88 = .ok (.invokeinterface 48 2, 5) := by decide +kernel
theorem dX6_made_93 : decode cX6_made 93 = .ok (.aload_n 0, 1) := dk_42 (dk_at dksX6_made_3 21 rfl rfl)
theorem dX6_made_94 : decode cX6_made 94 = .ok (.getfield 29, 3) := dk_180 0 29 (dk_at dksX6_made_4 0 rfl rfl)
theorem dX6_made_97 : decode cX6_made 97 = .ok (.iload_n 2, 1) := dk_28 (dk_at dksX6_made_4 3 rfl rfl)
theorem dX6_made_98 : decode cX6_made 98 = .ok (.isub, 1) := dk_100 (dk_at dksX6_made_4 4 rfl rfl)
theorem dX6_made_99 : decode cX6_made 99 = .ok (.invokevirtual 65, 3) := dk_182 0 65 (dk_at dksX6_made_4 5 rfl rfl)
theorem dX6_made_102 : decode cX6_made 102 = .ok (.iload_n 3, 1) := dk_29 (dk_at dksX6_made_4 8 rfl rfl)
theorem dX6_made_103 : decode cX6_made 103 = .ok (.iload 4, 2) := dk_21 4 (dk_at dksX6_made_4 9 rfl rfl)
theorem dX6_made_105 : decode cX6_made 105 = .ok (.invokeinterface 69 4, 5) := by decide +kernel
theorem dX6_made_110 : decode cX6_made 110 = .ok (.ireturn, 1) := dk_172 (dk_at dksX6_made_4 16 rfl rfl)
abbrev cX6_at : ByteArray := prog_6_method_4_code
def yX6_at : MethodName := ⟨RX6, "at", "(II)I"⟩
def dkwX6_at_0 : List UInt8 := [28, 156, 0, 7, 3, 167, 0, 17, 42, 180, 0, 15, 16, 64, 27, 104, 28, 16, 64, 112, 96, 51, 172]
abbrev dktX6_at_0 : List UInt8 := dkwX6_at_0 ++ []
theorem dksX6_at_0 : cX6_at.data.toList.drop 0 = dktX6_at_0 := by decide +kernel
theorem dX6_at_0 : decode cX6_at 0 = .ok (.iload_n 2, 1) := dk_28 (dk_at dksX6_at_0 0 rfl rfl)
theorem dX6_at_1 : decode cX6_at 1 = .ok (.ifCond .ge 7, 3) := dk_156 0 7 (dk_at dksX6_at_0 1 rfl rfl)
theorem dX6_at_4 : decode cX6_at 4 = .ok (.iconst 0, 1) := dk_3 (dk_at dksX6_at_0 4 rfl rfl)
theorem dX6_at_5 : decode cX6_at 5 = .ok (.goto 17, 3) := dk_167 0 17 (dk_at dksX6_at_0 5 rfl rfl)
theorem dX6_at_8 : decode cX6_at 8 = .ok (.aload_n 0, 1) := dk_42 (dk_at dksX6_at_0 8 rfl rfl)
theorem dX6_at_9 : decode cX6_at 9 = .ok (.getfield 15, 3) := dk_180 0 15 (dk_at dksX6_at_0 9 rfl rfl)
theorem dX6_at_12 : decode cX6_at 12 = .ok (.bipush 64, 2) := dk_16 64 (dk_at dksX6_at_0 12 rfl rfl)
theorem dX6_at_14 : decode cX6_at 14 = .ok (.iload_n 1, 1) := dk_27 (dk_at dksX6_at_0 14 rfl rfl)
theorem dX6_at_15 : decode cX6_at 15 = .ok (.imul, 1) := dk_104 (dk_at dksX6_at_0 15 rfl rfl)
theorem dX6_at_16 : decode cX6_at 16 = .ok (.iload_n 2, 1) := dk_28 (dk_at dksX6_at_0 16 rfl rfl)
theorem dX6_at_17 : decode cX6_at 17 = .ok (.bipush 64, 2) := dk_16 64 (dk_at dksX6_at_0 17 rfl rfl)
theorem dX6_at_19 : decode cX6_at 19 = .ok (.irem, 1) := dk_112 (dk_at dksX6_at_0 19 rfl rfl)
theorem dX6_at_20 : decode cX6_at 20 = .ok (.iadd, 1) := dk_96 (dk_at dksX6_at_0 20 rfl rfl)
theorem dX6_at_21 : decode cX6_at 21 = .ok (.baload, 1) := dk_51 (dk_at dksX6_at_0 21 rfl rfl)
theorem dX6_at_22 : decode cX6_at 22 = .ok (.ireturn, 1) := dk_172 (dk_at dksX6_at_0 22 rfl rfl)
abbrev cX6_bit : ByteArray := prog_6_method_8_code
def yX6_bit : MethodName := ⟨RX6, "bit", "(I)I"⟩
def dkwX6_bit_0 : List UInt8 := [42, 27, 42, 180, 0, 29, 4, 100, 182, 0, 65, 172]
abbrev dktX6_bit_0 : List UInt8 := dkwX6_bit_0 ++ []
theorem dksX6_bit_0 : cX6_bit.data.toList.drop 0 = dktX6_bit_0 := by decide +kernel
theorem dX6_bit_0 : decode cX6_bit 0 = .ok (.aload_n 0, 1) := dk_42 (dk_at dksX6_bit_0 0 rfl rfl)
theorem dX6_bit_1 : decode cX6_bit 1 = .ok (.iload_n 1, 1) := dk_27 (dk_at dksX6_bit_0 1 rfl rfl)
theorem dX6_bit_2 : decode cX6_bit 2 = .ok (.aload_n 0, 1) := dk_42 (dk_at dksX6_bit_0 2 rfl rfl)
theorem dX6_bit_3 : decode cX6_bit 3 = .ok (.getfield 29, 3) := dk_180 0 29 (dk_at dksX6_bit_0 3 rfl rfl)
theorem dX6_bit_6 : decode cX6_bit 6 = .ok (.iconst 1, 1) := dk_4 (dk_at dksX6_bit_0 6 rfl rfl)
theorem dX6_bit_7 : decode cX6_bit 7 = .ok (.isub, 1) := dk_100 (dk_at dksX6_bit_0 7 rfl rfl)
theorem dX6_bit_8 : decode cX6_bit 8 = .ok (.invokevirtual 65, 3) := dk_182 0 65 (dk_at dksX6_bit_0 8 rfl rfl)
theorem dX6_bit_11 : decode cX6_bit 11 = .ok (.ireturn, 1) := dk_172 (dk_at dksX6_bit_0 11 rfl rfl)
theorem q64 : (Jvm.Cond.initialized "ShareStreams$Run") ∈ lw_all := lw_g (lw_at lw_m1 21 rfl) rfl
theorem q107 : (Jvm.Cond.fieldLinkNest "ShareStreams$Run" (19 : Nat) "ShareStreams$Bench" "lines" "Ljava/util/List;" "ShareStreams") ∈ lw_tbl := lw_at lw_m1 64 rfl
theorem q268 : (Jvm.Cond.selects "ShareStreams$Run" ({ cls := "java/lang/Object", name := "getClass", desc := "()Ljava/lang/Class;" } : Jvm.MethodName) ({ cls := "java/lang/Object", name := "getClass", desc := "()Ljava/lang/Class;" } : Jvm.MethodName)) ∈ lw_all := lw_g (lw_at lw_m1 225 rfl) rfl
theorem q729 : (Jvm.Cond.instantiable "ShareStreams$Run" (4 : Nat)) ∈ lw_all := lw_g (lw_at lw_m3 206 rfl) rfl
theorem q731 : (Jvm.Cond.instanceMethod ({ cls := "ShareStreams$Run", name := "<init>", desc := "(LShareStreams$Bench;)V" } : Jvm.MethodName)) ∈ lw_all := lw_g (lw_at lw_m3 208 rfl) rfl
theorem q732 : (Jvm.Cond.code ({ cls := "ShareStreams$Run", name := "<init>", desc := "(LShareStreams$Bench;)V" } : Jvm.MethodName) prog_6_method_1_code (2 : Nat) (Option.none : Option Jvm.ClassFile.FieldType)) ∈ lw_all := lw_g (lw_at lw_m3 209 rfl) rfl
theorem q733 : (Jvm.Cond.methodLink "ShareStreams$Run" (3 : Nat) ({ cls := "java/lang/Object", name := "<init>", desc := "()V" } : Jvm.MethodName)) ∈ lw_all := lw_g (lw_at lw_m3 210 rfl) rfl
theorem q734 : (Jvm.Cond.methodLink "ShareStreams$Run" (26 : Nat) ({ cls := "ShareStreams$Run", name := "begin", desc := "()V" } : Jvm.MethodName)) ∈ lw_all := lw_g (lw_at lw_m3 211 rfl) rfl
theorem q735 : (Jvm.Cond.instanceMethod ({ cls := "ShareStreams$Run", name := "begin", desc := "()V" } : Jvm.MethodName)) ∈ lw_all := lw_g (lw_at lw_m3 212 rfl) rfl
theorem q736 : (Jvm.Cond.selects "ShareStreams$Run" ({ cls := "ShareStreams$Run", name := "begin", desc := "()V" } : Jvm.MethodName) ({ cls := "ShareStreams$Run", name := "begin", desc := "()V" } : Jvm.MethodName)) ∈ lw_all := lw_g (lw_at lw_m3 213 rfl) rfl
theorem q737 : (Jvm.Cond.code ({ cls := "ShareStreams$Run", name := "begin", desc := "()V" } : Jvm.MethodName) prog_6_method_2_code (2 : Nat) (Option.none : Option Jvm.ClassFile.FieldType)) ∈ lw_all := lw_g (lw_at lw_m3 214 rfl) rfl
theorem q738 : (Jvm.Cond.interfaceEntry "ShareStreams$Run" (33 : Nat)) ∈ lw_tbl := lw_at lw_m3 215 rfl
theorem q739 : (Jvm.Cond.methodLink "ShareStreams$Run" (33 : Nat) ({ cls := "java/util/List", name := "size", desc := "()I" } : Jvm.MethodName)) ∈ lw_all := lw_g (lw_at lw_m3 216 rfl) rfl
theorem q740 : (Jvm.Cond.interfaceEntry "ShareStreams$Run" (39 : Nat)) ∈ lw_tbl := lw_at lw_m3 217 rfl
theorem q741 : (Jvm.Cond.methodLink "ShareStreams$Run" (39 : Nat) ({ cls := "java/util/List", name := "get", desc := "(I)Ljava/lang/Object;" } : Jvm.MethodName)) ∈ lw_all := lw_g (lw_at lw_m3 218 rfl) rfl
theorem q742 : (Jvm.Cond.classLink "ShareStreams$Run" (43 : Nat) "ShareStreams$Line") ∈ lw_all := lw_g (lw_at lw_m3 219 rfl) rfl
theorem q743 : (Jvm.Cond.interfaceEntry "ShareStreams$Run" (45 : Nat)) ∈ lw_tbl := lw_at lw_m3 220 rfl
theorem q744 : (Jvm.Cond.methodLink "ShareStreams$Run" (45 : Nat) ({ cls := "ShareStreams$Line", name := "kind", desc := "()I" } : Jvm.MethodName)) ∈ lw_all := lw_g (lw_at lw_m3 221 rfl) rfl
theorem q745 : (Jvm.Cond.interfaceEntry "ShareStreams$Run" (48 : Nat)) ∈ lw_tbl := lw_at lw_m3 222 rfl
theorem q746 : (Jvm.Cond.methodLink "ShareStreams$Run" (48 : Nat) ({ cls := "ShareStreams$Line", name := "number", desc := "(I)I" } : Jvm.MethodName)) ∈ lw_all := lw_g (lw_at lw_m3 223 rfl) rfl
theorem q747 : (Jvm.Cond.fieldLink "ShareStreams$Run" (25 : Nat) "ShareStreams$Run" "lines" "Ljava/util/List;") ∈ lw_all := lw_g (lw_at lw_m3 224 rfl) rfl
theorem q748 : (Jvm.Cond.fieldLink "ShareStreams$Run" (9 : Nat) "ShareStreams$Run" "registers" "[I") ∈ lw_all := lw_g (lw_at lw_m3 225 rfl) rfl
theorem q750 : (Jvm.Cond.fieldLink "ShareStreams$Run" (15 : Nat) "ShareStreams$Run" "latest" "[B") ∈ lw_all := lw_g (lw_at lw_m3 227 rfl) rfl
theorem q751 : (Jvm.Cond.fieldLink "ShareStreams$Run" (29 : Nat) "ShareStreams$Run" "tick" "I") ∈ lw_all := lw_g (lw_at lw_m3 228 rfl) rfl
theorem q752 : (Jvm.Cond.laysFinal "ShareStreams$Run" "ShareStreams$Run" "lines" "Ljava/util/List;") ∈ lw_all := lw_g (lw_at lw_m3 229 rfl) rfl
theorem q753 : (Jvm.Cond.soleField "ShareStreams$Run" "lines") ∈ lw_all := lw_g (lw_at lw_m3 230 rfl) rfl
theorem q754 : (Jvm.Cond.laysFinal "ShareStreams$Run" "ShareStreams$Run" "registers" "[I") ∈ lw_all := lw_g (lw_at lw_m3 231 rfl) rfl
theorem q755 : (Jvm.Cond.soleField "ShareStreams$Run" "registers") ∈ lw_all := lw_g (lw_at lw_m3 232 rfl) rfl
theorem q756 : (Jvm.Cond.laysFinal "ShareStreams$Run" "ShareStreams$Run" "latest" "[B") ∈ lw_all := lw_g (lw_at lw_m3 233 rfl) rfl
theorem q757 : (Jvm.Cond.soleField "ShareStreams$Run" "latest") ∈ lw_all := lw_g (lw_at lw_m3 234 rfl) rfl
theorem q758 : (Jvm.Cond.lays "ShareStreams$Run" "ShareStreams$Run" "tick" "I") ∈ lw_all := lw_g (lw_at lw_m3 235 rfl) rfl
theorem q759 : (Jvm.Cond.soleField "ShareStreams$Run" "tick") ∈ lw_all := lw_g (lw_at lw_m3 236 rfl) rfl
theorem q760 : (Jvm.Cond.superclass "ShareStreams$Run" "java/lang/Object") ∈ lw_all := lw_g (lw_at lw_m3 237 rfl) rfl
theorem q762 : (Jvm.Cond.instanceMethod ({ cls := "ShareStreams$Run", name := "count", desc := "(II)I" } : Jvm.MethodName)) ∈ lw_all := lw_g (lw_at lw_m3 239 rfl) rfl
theorem q763 : (Jvm.Cond.selects "ShareStreams$Run" ({ cls := "ShareStreams$Run", name := "count", desc := "(II)I" } : Jvm.MethodName) ({ cls := "ShareStreams$Run", name := "count", desc := "(II)I" } : Jvm.MethodName)) ∈ lw_all := lw_g (lw_at lw_m4 0 rfl) rfl
theorem q764 : (Jvm.Cond.code ({ cls := "ShareStreams$Run", name := "count", desc := "(II)I" } : Jvm.MethodName) prog_6_method_3_code (5 : Nat) (Option.some Jvm.ClassFile.FieldType.int)) ∈ lw_all := lw_g (lw_at lw_m4 1 rfl) rfl
theorem q765 : (Jvm.Cond.methodLink "ShareStreams$Run" (52 : Nat) ({ cls := "ShareStreams$Run", name := "step", desc := "()V" } : Jvm.MethodName)) ∈ lw_all := lw_g (lw_at lw_m4 2 rfl) rfl
theorem q766 : (Jvm.Cond.instanceMethod ({ cls := "ShareStreams$Run", name := "step", desc := "()V" } : Jvm.MethodName)) ∈ lw_all := lw_g (lw_at lw_m4 3 rfl) rfl
theorem q767 : (Jvm.Cond.selects "ShareStreams$Run" ({ cls := "ShareStreams$Run", name := "step", desc := "()V" } : Jvm.MethodName) ({ cls := "ShareStreams$Run", name := "step", desc := "()V" } : Jvm.MethodName)) ∈ lw_all := lw_g (lw_at lw_m4 4 rfl) rfl
theorem q768 : (Jvm.Cond.code ({ cls := "ShareStreams$Run", name := "step", desc := "()V" } : Jvm.MethodName) prog_6_method_7_code (3 : Nat) (Option.none : Option Jvm.ClassFile.FieldType)) ∈ lw_all := lw_g (lw_at lw_m4 5 rfl) rfl
theorem q769 : (Jvm.Cond.methodLink "ShareStreams$Run" (72 : Nat) ({ cls := "ShareStreams$Run", name := "source", desc := "(ILShareStreams$Line;)I" } : Jvm.MethodName)) ∈ lw_all := lw_g (lw_at lw_m4 6 rfl) rfl
theorem q770 : (Jvm.Cond.privateMethod ({ cls := "ShareStreams$Run", name := "source", desc := "(ILShareStreams$Line;)I" } : Jvm.MethodName)) ∈ lw_tbl := lw_at lw_m4 7 rfl
theorem q771 : (Jvm.Cond.instanceMethod ({ cls := "ShareStreams$Run", name := "source", desc := "(ILShareStreams$Line;)I" } : Jvm.MethodName)) ∈ lw_all := lw_g (lw_at lw_m4 8 rfl) rfl
theorem q772 : (Jvm.Cond.code ({ cls := "ShareStreams$Run", name := "source", desc := "(ILShareStreams$Line;)I" } : Jvm.MethodName) prog_6_method_5_code (4 : Nat) (Option.some Jvm.ClassFile.FieldType.int)) ∈ lw_all := lw_g (lw_at lw_m4 9 rfl) rfl
theorem q773 : (Jvm.Cond.methodLinkNest "ShareStreams$Run" (58 : Nat) ({ cls := "ShareStreams", name := "next", desc := "(I)I" } : Jvm.MethodName) "ShareStreams") ∈ lw_tbl := lw_at lw_m4 10 rfl
theorem q776 : (Jvm.Cond.methodLink "ShareStreams$Run" (76 : Nat) ({ cls := "ShareStreams$Run", name := "made", desc := "(LShareStreams$Line;)I" } : Jvm.MethodName)) ∈ lw_all := lw_g (lw_at lw_m4 13 rfl) rfl
theorem q777 : (Jvm.Cond.privateMethod ({ cls := "ShareStreams$Run", name := "made", desc := "(LShareStreams$Line;)I" } : Jvm.MethodName)) ∈ lw_tbl := lw_at lw_m4 14 rfl
theorem q778 : (Jvm.Cond.instanceMethod ({ cls := "ShareStreams$Run", name := "made", desc := "(LShareStreams$Line;)I" } : Jvm.MethodName)) ∈ lw_all := lw_g (lw_at lw_m4 15 rfl) rfl
theorem q779 : (Jvm.Cond.code ({ cls := "ShareStreams$Run", name := "made", desc := "(LShareStreams$Line;)I" } : Jvm.MethodName) prog_6_method_6_code (5 : Nat) (Option.some Jvm.ClassFile.FieldType.int)) ∈ lw_all := lw_g (lw_at lw_m4 16 rfl) rfl
theorem q780 : (Jvm.Cond.interfaceEntry "ShareStreams$Run" (61 : Nat)) ∈ lw_tbl := lw_at lw_m4 17 rfl
theorem q781 : (Jvm.Cond.methodLink "ShareStreams$Run" (61 : Nat) ({ cls := "ShareStreams$Line", name := "isLine", desc := "(I)Z" } : Jvm.MethodName)) ∈ lw_all := lw_g (lw_at lw_m4 18 rfl) rfl
theorem q782 : (Jvm.Cond.methodLink "ShareStreams$Run" (65 : Nat) ({ cls := "ShareStreams$Run", name := "at", desc := "(II)I" } : Jvm.MethodName)) ∈ lw_all := lw_g (lw_at lw_m4 19 rfl) rfl
theorem q783 : (Jvm.Cond.privateMethod ({ cls := "ShareStreams$Run", name := "at", desc := "(II)I" } : Jvm.MethodName)) ∈ lw_tbl := lw_at lw_m4 20 rfl
theorem q784 : (Jvm.Cond.instanceMethod ({ cls := "ShareStreams$Run", name := "at", desc := "(II)I" } : Jvm.MethodName)) ∈ lw_all := lw_g (lw_at lw_m4 21 rfl) rfl
theorem q785 : (Jvm.Cond.code ({ cls := "ShareStreams$Run", name := "at", desc := "(II)I" } : Jvm.MethodName) prog_6_method_4_code (3 : Nat) (Option.some Jvm.ClassFile.FieldType.int)) ∈ lw_all := lw_g (lw_at lw_m4 22 rfl) rfl
theorem q786 : (Jvm.Cond.interfaceEntry "ShareStreams$Run" (69 : Nat)) ∈ lw_tbl := lw_at lw_m4 23 rfl
theorem q787 : (Jvm.Cond.methodLink "ShareStreams$Run" (69 : Nat) ({ cls := "ShareStreams$Line", name := "bit", desc := "(III)I" } : Jvm.MethodName)) ∈ lw_all := lw_g (lw_at lw_m4 24 rfl) rfl
theorem q794 : (Jvm.Cond.methodLink "ShareStreams$Run" (55 : Nat) ({ cls := "ShareStreams$Run", name := "bit", desc := "(I)I" } : Jvm.MethodName)) ∈ lw_all := lw_g (lw_at lw_m4 31 rfl) rfl
theorem q795 : (Jvm.Cond.instanceMethod ({ cls := "ShareStreams$Run", name := "bit", desc := "(I)I" } : Jvm.MethodName)) ∈ lw_all := lw_g (lw_at lw_m4 32 rfl) rfl
theorem q796 : (Jvm.Cond.selects "ShareStreams$Run" ({ cls := "ShareStreams$Run", name := "bit", desc := "(I)I" } : Jvm.MethodName) ({ cls := "ShareStreams$Run", name := "bit", desc := "(I)I" } : Jvm.MethodName)) ∈ lw_all := lw_g (lw_at lw_m4 33 rfl) rfl
theorem q797 : (Jvm.Cond.code ({ cls := "ShareStreams$Run", name := "bit", desc := "(I)I" } : Jvm.MethodName) prog_6_method_8_code (2 : Nat) (Option.some Jvm.ClassFile.FieldType.int)) ∈ lw_all := lw_g (lw_at lw_m4 34 rfl) rfl
theorem q1243 : (Jvm.Cond.castable "ShareStreams$Run" "java/lang/Object") ∈ lw_tbl := lw_at lw_m6 0 rfl
theorem in_X6 : ∀ w ∈ wsX60, w ∈ lw_all := lw_in wsX60 [752, 754, 756, 758] (by decide +kernel) (by decide +kernel)
