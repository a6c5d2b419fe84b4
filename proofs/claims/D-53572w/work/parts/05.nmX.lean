/-! SiteCuts -/
set_option maxRecDepth 100000
def RX0 : String := "SiteCuts"
def TX0 : u_T := fun k => match k with
  | 0 => ("SiteCuts", "state", "LSiteCuts$State;", false)
  | 1 => ("SiteCuts", "snapshot", "LSiteCuts$State;", false)
  | 2 => ("SiteCuts", "history", "Ljava/util/List;", true)
  | _ => ("SiteCuts", "text", "Ljava/lang/StringBuilder;", true)
def tyX0 : Nat → FieldType := fun k => match k with
  | 0 => .object "SiteCuts$State"
  | 1 => .object "SiteCuts$State"
  | 2 => .object "java/util/List"
  | _ => .object "java/lang/StringBuilder"
abbrev wsX00 : List Cond := u_ws RX0 TX0 4
theorem nmX0 : ∀ a, a < 4 → ∀ b, b < 4 → a ≠ b → (TX0 a).2.1 ≠ (TX0 b).2.1 := by decide +kernel
theorem tyX0_ok : ∀ k, k < 4 → parseFieldDescriptor (TX0 k).2.2.1 = some (tyX0 k) := by decide +kernel
abbrev cX0_init : ByteArray := prog_1_method_3_code
def yX0_init : MethodName := ⟨RX0, "<init>", "()V"⟩
def dkwX0_init_1 : List UInt8 := [181, 0, 19, 42, 187, 0, 23, 89, 183, 0, 25, 181, 0, 26, 177]
abbrev dktX0_init_1 : List UInt8 := dkwX0_init_1 ++ []
def dkwX0_init_0 : List UInt8 := [42, 183, 0, 1, 42, 187, 0, 7, 89, 183, 0, 9, 181, 0, 10, 42, 187, 0, 16, 89, 183, 0, 18]
abbrev dktX0_init_0 : List UInt8 := dkwX0_init_0 ++ dktX0_init_1
theorem dksX0_init_0 : cX0_init.data.toList.drop 0 = dktX0_init_0 := by decide +kernel
theorem dksX0_init_1 : cX0_init.data.toList.drop 23 = dktX0_init_1 := dk_seg dksX0_init_0 23 rfl rfl
theorem dX0_init_0 : decode cX0_init 0 = .ok (.aload_n 0, 1) := dk_42 (dk_at dksX0_init_0 0 rfl rfl)
theorem dX0_init_1 : decode cX0_init 1 = .ok (.invokespecial 1, 3) := dk_183 0 1 (dk_at dksX0_init_0 1 rfl rfl)
theorem dX0_init_4 : decode cX0_init 4 = .ok (.aload_n 0, 1) := dk_42 (dk_at dksX0_init_0 4 rfl rfl)
theorem dX0_init_5 : decode cX0_init 5 = .ok (.new 7, 3) := dk_187 0 7 (dk_at dksX0_init_0 5 rfl rfl)
theorem dX0_init_8 : decode cX0_init 8 = .ok (.dup, 1) := dk_89 (dk_at dksX0_init_0 8 rfl rfl)
theorem dX0_init_9 : decode cX0_init 9 = .ok (.invokespecial 9, 3) := dk_183 0 9 (dk_at dksX0_init_0 9 rfl rfl)
theorem dX0_init_12 : decode cX0_init 12 = .ok (.putfield 10, 3) := dk_181 0 10 (dk_at dksX0_init_0 12 rfl rfl)
theorem dX0_init_15 : decode cX0_init 15 = .ok (.aload_n 0, 1) := dk_42 (dk_at dksX0_init_0 15 rfl rfl)
theorem dX0_init_16 : decode cX0_init 16 = .ok (.new 16, 3) := dk_187 0 16 (dk_at dksX0_init_0 16 rfl rfl)
theorem dX0_init_19 : decode cX0_init 19 = .ok (.dup, 1) := dk_89 (dk_at dksX0_init_0 19 rfl rfl)
theorem dX0_init_20 : decode cX0_init 20 = .ok (.invokespecial 18, 3) := dk_183 0 18 (dk_at dksX0_init_0 20 rfl rfl)
theorem dX0_init_23 : decode cX0_init 23 = .ok (.putfield 19, 3) := dk_181 0 19 (dk_at dksX0_init_1 0 rfl rfl)
theorem dX0_init_26 : decode cX0_init 26 = .ok (.aload_n 0, 1) := dk_42 (dk_at dksX0_init_1 3 rfl rfl)
theorem dX0_init_27 : decode cX0_init 27 = .ok (.new 23, 3) := dk_187 0 23 (dk_at dksX0_init_1 4 rfl rfl)
theorem dX0_init_30 : decode cX0_init 30 = .ok (.dup, 1) := dk_89 (dk_at dksX0_init_1 7 rfl rfl)
theorem dX0_init_31 : decode cX0_init 31 = .ok (.invokespecial 25, 3) := dk_183 0 25 (dk_at dksX0_init_1 8 rfl rfl)
theorem dX0_init_34 : decode cX0_init 34 = .ok (.putfield 26, 3) := dk_181 0 26 (dk_at dksX0_init_1 11 rfl rfl)
theorem dX0_init_37 : decode cX0_init 37 = .ok (.return_, 1) := dk_177 (dk_at dksX0_init_1 14 rfl rfl)
abbrev cX0_addSite : ByteArray := prog_1_method_10_code
def yX0_addSite : MethodName := ⟨RX0, "addSite", "(I)I"⟩
def dkwX0_addSite_2 : List UInt8 := [79, 45, 180, 0, 44, 89, 180, 0, 48, 4, 96, 181, 0, 48, 42, 45, 28, 182, 0, 81, 172]
abbrev dktX0_addSite_2 : List UInt8 := dkwX0_addSite_2 ++ []
def dkwX0_addSite_1 : List UInt8 := [61, 28, 16, 7, 160, 0, 6, 16, 253, 172, 42, 182, 0, 74, 78, 45, 180, 0, 44, 180, 0, 77, 28, 27]
abbrev dktX0_addSite_1 : List UInt8 := dkwX0_addSite_1 ++ dktX0_addSite_2
def dkwX0_addSite_0 : List UInt8 := [27, 3, 17, 3, 231, 184, 0, 54, 154, 0, 6, 16, 254, 172, 42, 180, 0, 10, 180, 0, 44, 180, 0, 48]
abbrev dktX0_addSite_0 : List UInt8 := dkwX0_addSite_0 ++ dktX0_addSite_1
theorem dksX0_addSite_0 : cX0_addSite.data.toList.drop 0 = dktX0_addSite_0 := by decide +kernel
theorem dksX0_addSite_1 : cX0_addSite.data.toList.drop 24 = dktX0_addSite_1 := dk_seg dksX0_addSite_0 24 rfl rfl
theorem dksX0_addSite_2 : cX0_addSite.data.toList.drop 48 = dktX0_addSite_2 := dk_seg dksX0_addSite_1 24 rfl rfl
theorem dX0_addSite_0 : decode cX0_addSite 0 = .ok (.iload_n 1, 1) := dk_27 (dk_at dksX0_addSite_0 0 rfl rfl)
theorem dX0_addSite_1 : decode cX0_addSite 1 = .ok (.iconst 0, 1) := dk_3 (dk_at dksX0_addSite_0 1 rfl rfl)
theorem dX0_addSite_2 : decode cX0_addSite 2 = .ok (.sipush 999, 3) := dk_17 3 231 (dk_at dksX0_addSite_0 2 rfl rfl)
theorem dX0_addSite_5 : decode cX0_addSite 5 = .ok (.invokestatic 54, 3) := dk_184 0 54 (dk_at dksX0_addSite_0 5 rfl rfl)
theorem dX0_addSite_8 : decode cX0_addSite 8 = .ok (.ifCond .ne 6, 3) := dk_154 0 6 (dk_at dksX0_addSite_0 8 rfl rfl)
theorem dX0_addSite_11 : decode cX0_addSite 11 = .ok (.bipush (-2), 2) := dk_16 254 (dk_at dksX0_addSite_0 11 rfl rfl)
theorem dX0_addSite_13 : decode cX0_addSite 13 = .ok (.ireturn, 1) := dk_172 (dk_at dksX0_addSite_0 13 rfl rfl)
theorem dX0_addSite_14 : decode cX0_addSite 14 = .ok (.aload_n 0, 1) := dk_42 (dk_at dksX0_addSite_0 14 rfl rfl)
theorem dX0_addSite_15 : decode cX0_addSite 15 = .ok (.getfield 10, 3) := dk_180 0 10 (dk_at dksX0_addSite_0 15 rfl rfl)
theorem dX0_addSite_18 : decode cX0_addSite 18 = .ok (.getfield 44, 3) := dk_180 0 44 (dk_at dksX0_addSite_0 18 rfl rfl)
theorem dX0_addSite_21 : decode cX0_addSite 21 = .ok (.getfield 48, 3) := dk_180 0 48 (dk_at dksX0_addSite_0 21 rfl rfl)
theorem dX0_addSite_24 : decode cX0_addSite 24 = .ok (.istore_n 2, 1) := dk_61 (dk_at dksX0_addSite_1 0 rfl rfl)
theorem dX0_addSite_25 : decode cX0_addSite 25 = .ok (.iload_n 2, 1) := dk_28 (dk_at dksX0_addSite_1 1 rfl rfl)
theorem dX0_addSite_26 : decode cX0_addSite 26 = .ok (.bipush 7, 2) := dk_16 7 (dk_at dksX0_addSite_1 2 rfl rfl)
theorem dX0_addSite_28 : decode cX0_addSite 28 = .ok (.if_icmp .ne 6, 3) := dk_160 0 6 (dk_at dksX0_addSite_1 4 rfl rfl)
theorem dX0_addSite_31 : decode cX0_addSite 31 = .ok (.bipush (-3), 2) := dk_16 253 (dk_at dksX0_addSite_1 7 rfl rfl)
theorem dX0_addSite_33 : decode cX0_addSite 33 = .ok (.ireturn, 1) := dk_172 (dk_at dksX0_addSite_1 9 rfl rfl)
theorem dX0_addSite_34 : decode cX0_addSite 34 = .ok (.aload_n 0, 1) := dk_42 (dk_at dksX0_addSite_1 10 rfl rfl)
theorem dX0_addSite_35 : decode cX0_addSite 35 = .ok (.invokevirtual 74, 3) := dk_182 0 74 (dk_at dksX0_addSite_1 11 rfl rfl)
theorem dX0_addSite_38 : decode cX0_addSite 38 = .ok (.astore_n 3, 1) := dk_78 (dk_at dksX0_addSite_1 14 rfl rfl)
theorem dX0_addSite_39 : decode cX0_addSite 39 = .ok (.aload_n 3, 1) := dk_45 (dk_at dksX0_addSite_1 15 rfl rfl)
theorem dX0_addSite_40 : decode cX0_addSite 40 = .ok (.getfield 44, 3) := dk_180 0 44 (dk_at dksX0_addSite_1 16 rfl rfl)
theorem dX0_addSite_43 : decode cX0_addSite 43 = .ok (.getfield 77, 3) := dk_180 0 77 (dk_at dksX0_addSite_1 19 rfl rfl)
theorem dX0_addSite_46 : decode cX0_addSite 46 = .ok (.iload_n 2, 1) := dk_28 (dk_at dksX0_addSite_1 22 rfl rfl)
theorem dX0_addSite_47 : decode cX0_addSite 47 = .ok (.iload_n 1, 1) := dk_27 (dk_at dksX0_addSite_1 23 rfl rfl)
theorem dX0_addSite_48 : decode cX0_addSite 48 = .ok (.iastore, 1) := dk_79 (dk_at dksX0_addSite_2 0 rfl rfl)
theorem dX0_addSite_49 : decode cX0_addSite 49 = .ok (.aload_n 3, 1) := dk_45 (dk_at dksX0_addSite_2 1 rfl rfl)
theorem dX0_addSite_50 : decode cX0_addSite 50 = .ok (.getfield 44, 3) := dk_180 0 44 (dk_at dksX0_addSite_2 2 rfl rfl)
theorem dX0_addSite_53 : decode cX0_addSite 53 = .ok (.dup, 1) := dk_89 (dk_at dksX0_addSite_2 5 rfl rfl)
theorem dX0_addSite_54 : decode cX0_addSite 54 = .ok (.getfield 48, 3) := dk_180 0 48 (dk_at dksX0_addSite_2 6 rfl rfl)
theorem dX0_addSite_57 : decode cX0_addSite 57 = .ok (.iconst 1, 1) := dk_4 (dk_at dksX0_addSite_2 9 rfl rfl)
theorem dX0_addSite_58 : decode cX0_addSite 58 = .ok (.iadd, 1) := dk_96 (dk_at dksX0_addSite_2 10 rfl rfl)
theorem dX0_addSite_59 : decode cX0_addSite 59 = .ok (.putfield 48, 3) := dk_181 0 48 (dk_at dksX0_addSite_2 11 rfl rfl)
theorem dX0_addSite_62 : decode cX0_addSite 62 = .ok (.aload_n 0, 1) := dk_42 (dk_at dksX0_addSite_2 14 rfl rfl)
theorem dX0_addSite_63 : decode cX0_addSite 63 = .ok (.aload_n 3, 1) := dk_45 (dk_at dksX0_addSite_2 15 rfl rfl)
theorem dX0_addSite_64 : decode cX0_addSite 64 = .ok (.iload_n 2, 1) := dk_28 (dk_at dksX0_addSite_2 16 rfl rfl)
theorem dX0_addSite_65 : decode cX0_addSite 65 = .ok (.invokevirtual 81, 3) := dk_182 0 81 (dk_at dksX0_addSite_2 17 rfl rfl)
theorem dX0_addSite_68 : decode cX0_addSite 68 = .ok (.ireturn, 1) := dk_172 (dk_at dksX0_addSite_2 20 rfl rfl)
abbrev cX0_inRange : ByteArray := prog_1_method_1_code
def yX0_inRange : MethodName := ⟨RX0, "inRange", "(III)Z"⟩
def dkwX0_inRange_0 : List UInt8 := [26, 27, 161, 0, 12, 26, 28, 163, 0, 7, 4, 167, 0, 4, 3, 172]
abbrev dktX0_inRange_0 : List UInt8 := dkwX0_inRange_0 ++ []
theorem dksX0_inRange_0 : cX0_inRange.data.toList.drop 0 = dktX0_inRange_0 := by decide +kernel
theorem dX0_inRange_0 : decode cX0_inRange 0 = .ok (.iload_n 0, 1) := dk_26 (dk_at dksX0_inRange_0 0 rfl rfl)
theorem dX0_inRange_1 : decode cX0_inRange 1 = .ok (.iload_n 1, 1) := dk_27 (dk_at dksX0_inRange_0 1 rfl rfl)
theorem dX0_inRange_2 : decode cX0_inRange 2 = .ok (.if_icmp .lt 12, 3) := dk_161 0 12 (dk_at dksX0_inRange_0 2 rfl rfl)
theorem dX0_inRange_5 : decode cX0_inRange 5 = .ok (.iload_n 0, 1) := dk_26 (dk_at dksX0_inRange_0 5 rfl rfl)
theorem dX0_inRange_6 : decode cX0_inRange 6 = .ok (.iload_n 2, 1) := dk_28 (dk_at dksX0_inRange_0 6 rfl rfl)
theorem dX0_inRange_7 : decode cX0_inRange 7 = .ok (.if_icmp .gt 7, 3) := dk_163 0 7 (dk_at dksX0_inRange_0 7 rfl rfl)
theorem dX0_inRange_10 : decode cX0_inRange 10 = .ok (.iconst 1, 1) := dk_4 (dk_at dksX0_inRange_0 10 rfl rfl)
theorem dX0_inRange_11 : decode cX0_inRange 11 = .ok (.goto 4, 3) := dk_167 0 4 (dk_at dksX0_inRange_0 11 rfl rfl)
theorem dX0_inRange_14 : decode cX0_inRange 14 = .ok (.iconst 0, 1) := dk_3 (dk_at dksX0_inRange_0 14 rfl rfl)
theorem dX0_inRange_15 : decode cX0_inRange 15 = .ok (.ireturn, 1) := dk_172 (dk_at dksX0_inRange_0 15 rfl rfl)
abbrev cX0_fresh : ByteArray := prog_1_method_9_code
def yX0_fresh : MethodName := ⟨RX0, "fresh", "()LSiteCuts$State;"⟩
def dkwX0_fresh_0 : List UInt8 := [42, 180, 0, 10, 182, 0, 67, 76, 43, 182, 0, 71, 43, 176]
abbrev dktX0_fresh_0 : List UInt8 := dkwX0_fresh_0 ++ []
theorem dksX0_fresh_0 : cX0_fresh.data.toList.drop 0 = dktX0_fresh_0 := by decide +kernel
theorem dX0_fresh_0 : decode cX0_fresh 0 = .ok (.aload_n 0, 1) := dk_42 (dk_at dksX0_fresh_0 0 rfl rfl)
theorem dX0_fresh_1 : decode cX0_fresh 1 = .ok (.getfield 10, 3) := dk_180 0 10 (dk_at dksX0_fresh_0 1 rfl rfl)
theorem dX0_fresh_4 : decode cX0_fresh 4 = .ok (.invokevirtual 67, 3) := dk_182 0 67 (dk_at dksX0_fresh_0 4 rfl rfl)
theorem dX0_fresh_7 : decode cX0_fresh 7 = .ok (.astore_n 1, 1) := dk_76 (dk_at dksX0_fresh_0 7 rfl rfl)
theorem dX0_fresh_8 : decode cX0_fresh 8 = .ok (.aload_n 1, 1) := dk_43 (dk_at dksX0_fresh_0 8 rfl rfl)
theorem dX0_fresh_9 : decode cX0_fresh 9 = .ok (.invokevirtual 71, 3) := dk_182 0 71 (dk_at dksX0_fresh_0 9 rfl rfl)
theorem dX0_fresh_12 : decode cX0_fresh 12 = .ok (.aload_n 1, 1) := dk_43 (dk_at dksX0_fresh_0 12 rfl rfl)
theorem dX0_fresh_13 : decode cX0_fresh 13 = .ok (.areturn, 1) := dk_176 (dk_at dksX0_fresh_0 13 rfl rfl)
abbrev cX0_accept : ByteArray := prog_1_method_4_code
def yX0_accept : MethodName := ⟨RX0, "accept", "(LSiteCuts$State;I)I"⟩
def dkwX0_accept_2 : List UInt8 := [181, 0, 10, 28, 172]
abbrev dktX0_accept_2 : List UInt8 := dkwX0_accept_2 ++ []
def dkwX0_accept_1 : List UInt8 := [185, 0, 36, 2, 0, 87, 42, 180, 0, 19, 42, 180, 0, 10, 185, 0, 40, 2, 0, 87, 42, 43]
abbrev dktX0_accept_1 : List UInt8 := dkwX0_accept_1 ++ dktX0_accept_2
def dkwX0_accept_0 : List UInt8 := [28, 156, 0, 5, 28, 172, 42, 180, 0, 19, 185, 0, 30, 1, 0, 7, 160, 0, 14, 42, 180, 0, 19, 3]
abbrev dktX0_accept_0 : List UInt8 := dkwX0_accept_0 ++ dktX0_accept_1
theorem dksX0_accept_0 : cX0_accept.data.toList.drop 0 = dktX0_accept_0 := by decide +kernel
theorem dksX0_accept_1 : cX0_accept.data.toList.drop 24 = dktX0_accept_1 := dk_seg dksX0_accept_0 24 rfl rfl
theorem dksX0_accept_2 : cX0_accept.data.toList.drop 46 = dktX0_accept_2 := dk_seg dksX0_accept_1 22 rfl rfl
theorem dX0_accept_0 : decode cX0_accept 0 = .ok (.iload_n 2, 1) := dk_28 (dk_at dksX0_accept_0 0 rfl rfl)
theorem dX0_accept_1 : decode cX0_accept 1 = .ok (.ifCond .ge 5, 3) := dk_156 0 5 (dk_at dksX0_accept_0 1 rfl rfl)
theorem dX0_accept_4 : decode cX0_accept 4 = .ok (.iload_n 2, 1) := dk_28 (dk_at dksX0_accept_0 4 rfl rfl)
theorem dX0_accept_5 : decode cX0_accept 5 = .ok (.ireturn, 1) := dk_172 (dk_at dksX0_accept_0 5 rfl rfl)
theorem dX0_accept_6 : decode cX0_accept 6 = .ok (.aload_n 0, 1) := dk_42 (dk_at dksX0_accept_0 6 rfl rfl)
theorem dX0_accept_7 : decode cX0_accept 7 = .ok (.getfield 19, 3) := dk_180 0 19 (dk_at dksX0_accept_0 7 rfl rfl)
theorem dX0_accept_10 : decode cX0_accept 10 = .ok (.invokeinterface 30 1, 5) := by decide +kernel
theorem dX0_accept_15 : decode cX0_accept 15 = .ok (.iconst 4, 1) := dk_7 (dk_at dksX0_accept_0 15 rfl rfl)
theorem dX0_accept_16 : decode cX0_accept 16 = .ok (.if_icmp .ne 14, 3) := dk_160 0 14 (dk_at dksX0_accept_0 16 rfl rfl)
theorem dX0_accept_19 : decode cX0_accept 19 = .ok (.aload_n 0, 1) := dk_42 (dk_at dksX0_accept_0 19 rfl rfl)
theorem dX0_accept_20 : decode cX0_accept 20 = .ok (.getfield 19, 3) := dk_180 0 19 (dk_at dksX0_accept_0 20 rfl rfl)
theorem dX0_accept_23 : decode cX0_accept 23 = .ok (.iconst 0, 1) := dk_3 (dk_at dksX0_accept_0 23 rfl rfl)
theorem dX0_accept_24 : decode cX0_accept 24 = .ok (.invokeinterface 36 2, 5) := by decide +kernel
theorem dX0_accept_29 : decode cX0_accept 29 = .ok (.pop, 1) := dk_87 (dk_at dksX0_accept_1 5 rfl rfl)
theorem dX0_accept_30 : decode cX0_accept 30 = .ok (.aload_n 0, 1) := dk_42 (dk_at dksX0_accept_1 6 rfl rfl)
theorem dX0_accept_31 : decode cX0_accept 31 = .ok (.getfield 19, 3) := dk_180 0 19 (dk_at dksX0_accept_1 7 rfl rfl)
theorem dX0_accept_34 : decode cX0_accept 34 = .ok (.aload_n 0, 1) := dk_42 (dk_at dksX0_accept_1 10 rfl rfl)
theorem dX0_accept_35 : decode cX0_accept 35 = .ok (.getfield 10, 3) := dk_180 0 10 (dk_at dksX0_accept_1 11 rfl rfl)
theorem dX0_accept_38 : decode cX0_accept 38 = .ok (.invokeinterface 40 2, 5) := by decide +kernel
theorem dX0_accept_43 : decode cX0_accept 43 = .ok (.pop, 1) := dk_87 (dk_at dksX0_accept_1 19 rfl rfl)
theorem dX0_accept_44 : decode cX0_accept 44 = .ok (.aload_n 0, 1) := dk_42 (dk_at dksX0_accept_1 20 rfl rfl)
theorem dX0_accept_45 : decode cX0_accept 45 = .ok (.aload_n 1, 1) := dk_43 (dk_at dksX0_accept_1 21 rfl rfl)
theorem dX0_accept_46 : decode cX0_accept 46 = .ok (.putfield 10, 3) := dk_181 0 10 (dk_at dksX0_accept_2 0 rfl rfl)
theorem dX0_accept_49 : decode cX0_accept 49 = .ok (.iload_n 2, 1) := dk_28 (dk_at dksX0_accept_2 3 rfl rfl)
theorem dX0_accept_50 : decode cX0_accept 50 = .ok (.ireturn, 1) := dk_172 (dk_at dksX0_accept_2 4 rfl rfl)
abbrev cX0_addCustomer : ByteArray := prog_1_method_11_code
def yX0_addCustomer : MethodName := ⟨RX0, "addCustomer", "(I)I"⟩
def dkwX0_addCustomer_2 : List UInt8 := [45, 180, 0, 44, 89, 180, 0, 58, 4, 96, 181, 0, 58, 42, 45, 28, 182, 0, 81, 172]
abbrev dktX0_addCustomer_2 : List UInt8 := dkwX0_addCustomer_2 ++ []
def dkwX0_addCustomer_1 : List UInt8 := [28, 16, 8, 160, 0, 6, 16, 253, 172, 42, 182, 0, 74, 78, 45, 180, 0, 44, 180, 0, 85, 28, 27, 79]
abbrev dktX0_addCustomer_1 : List UInt8 := dkwX0_addCustomer_1 ++ dktX0_addCustomer_2
def dkwX0_addCustomer_0 : List UInt8 := [27, 4, 16, 20, 184, 0, 54, 154, 0, 6, 16, 254, 172, 42, 180, 0, 10, 180, 0, 44, 180, 0, 58, 61]
abbrev dktX0_addCustomer_0 : List UInt8 := dkwX0_addCustomer_0 ++ dktX0_addCustomer_1
theorem dksX0_addCustomer_0 : cX0_addCustomer.data.toList.drop 0 = dktX0_addCustomer_0 := by decide +kernel
theorem dksX0_addCustomer_1 : cX0_addCustomer.data.toList.drop 24 = dktX0_addCustomer_1 := dk_seg dksX0_addCustomer_0 24 rfl rfl
theorem dksX0_addCustomer_2 : cX0_addCustomer.data.toList.drop 48 = dktX0_addCustomer_2 := dk_seg dksX0_addCustomer_1 24 rfl rfl
theorem dX0_addCustomer_0 : decode cX0_addCustomer 0 = .ok (.iload_n 1, 1) := dk_27 (dk_at dksX0_addCustomer_0 0 rfl rfl)
theorem dX0_addCustomer_1 : decode cX0_addCustomer 1 = .ok (.iconst 1, 1) := dk_4 (dk_at dksX0_addCustomer_0 1 rfl rfl)
theorem dX0_addCustomer_2 : decode cX0_addCustomer 2 = .ok (.bipush 20, 2) := dk_16 20 (dk_at dksX0_addCustomer_0 2 rfl rfl)
theorem dX0_addCustomer_4 : decode cX0_addCustomer 4 = .ok (.invokestatic 54, 3) := dk_184 0 54 (dk_at dksX0_addCustomer_0 4 rfl rfl)
theorem dX0_addCustomer_7 : decode cX0_addCustomer 7 = .ok (.ifCond .ne 6, 3) := dk_154 0 6 (dk_at dksX0_addCustomer_0 7 rfl rfl)
theorem dX0_addCustomer_10 : decode cX0_addCustomer 10 = .ok (.bipush (-2), 2) := dk_16 254 (dk_at dksX0_addCustomer_0 10 rfl rfl)
theorem dX0_addCustomer_12 : decode cX0_addCustomer 12 = .ok (.ireturn, 1) := dk_172 (dk_at dksX0_addCustomer_0 12 rfl rfl)
theorem dX0_addCustomer_13 : decode cX0_addCustomer 13 = .ok (.aload_n 0, 1) := dk_42 (dk_at dksX0_addCustomer_0 13 rfl rfl)
theorem dX0_addCustomer_14 : decode cX0_addCustomer 14 = .ok (.getfield 10, 3) := dk_180 0 10 (dk_at dksX0_addCustomer_0 14 rfl rfl)
theorem dX0_addCustomer_17 : decode cX0_addCustomer 17 = .ok (.getfield 44, 3) := dk_180 0 44 (dk_at dksX0_addCustomer_0 17 rfl rfl)
theorem dX0_addCustomer_20 : decode cX0_addCustomer 20 = .ok (.getfield 58, 3) := dk_180 0 58 (dk_at dksX0_addCustomer_0 20 rfl rfl)
theorem dX0_addCustomer_23 : decode cX0_addCustomer 23 = .ok (.istore_n 2, 1) := dk_61 (dk_at dksX0_addCustomer_0 23 rfl rfl)
theorem dX0_addCustomer_24 : decode cX0_addCustomer 24 = .ok (.iload_n 2, 1) := dk_28 (dk_at dksX0_addCustomer_1 0 rfl rfl)
theorem dX0_addCustomer_25 : decode cX0_addCustomer 25 = .ok (.bipush 8, 2) := dk_16 8 (dk_at dksX0_addCustomer_1 1 rfl rfl)
theorem dX0_addCustomer_27 : decode cX0_addCustomer 27 = .ok (.if_icmp .ne 6, 3) := dk_160 0 6 (dk_at dksX0_addCustomer_1 3 rfl rfl)
theorem dX0_addCustomer_30 : decode cX0_addCustomer 30 = .ok (.bipush (-3), 2) := dk_16 253 (dk_at dksX0_addCustomer_1 6 rfl rfl)
theorem dX0_addCustomer_32 : decode cX0_addCustomer 32 = .ok (.ireturn, 1) := dk_172 (dk_at dksX0_addCustomer_1 8 rfl rfl)
theorem dX0_addCustomer_33 : decode cX0_addCustomer 33 = .ok (.aload_n 0, 1) := dk_42 (dk_at dksX0_addCustomer_1 9 rfl rfl)
theorem dX0_addCustomer_34 : decode cX0_addCustomer 34 = .ok (.invokevirtual 74, 3) := dk_182 0 74 (dk_at dksX0_addCustomer_1 10 rfl rfl)
theorem dX0_addCustomer_37 : decode cX0_addCustomer 37 = .ok (.astore_n 3, 1) := dk_78 (dk_at dksX0_addCustomer_1 13 rfl rfl)
theorem dX0_addCustomer_38 : decode cX0_addCustomer 38 = .ok (.aload_n 3, 1) := dk_45 (dk_at dksX0_addCustomer_1 14 rfl rfl)
theorem dX0_addCustomer_39 : decode cX0_addCustomer 39 = .ok (.getfield 44, 3) := dk_180 0 44 (dk_at dksX0_addCustomer_1 15 rfl rfl)
theorem dX0_addCustomer_42 : decode cX0_addCustomer 42 = .ok (.getfield 85, 3) := dk_180 0 85 (dk_at dksX0_addCustomer_1 18 rfl rfl)
theorem dX0_addCustomer_45 : decode cX0_addCustomer 45 = .ok (.iload_n 2, 1) := dk_28 (dk_at dksX0_addCustomer_1 21 rfl rfl)
theorem dX0_addCustomer_46 : decode cX0_addCustomer 46 = .ok (.iload_n 1, 1) := dk_27 (dk_at dksX0_addCustomer_1 22 rfl rfl)
theorem dX0_addCustomer_47 : decode cX0_addCustomer 47 = .ok (.iastore, 1) := dk_79 (dk_at dksX0_addCustomer_1 23 rfl rfl)
theorem dX0_addCustomer_48 : decode cX0_addCustomer 48 = .ok (.aload_n 3, 1) := dk_45 (dk_at dksX0_addCustomer_2 0 rfl rfl)
theorem dX0_addCustomer_49 : decode cX0_addCustomer 49 = .ok (.getfield 44, 3) := dk_180 0 44 (dk_at dksX0_addCustomer_2 1 rfl rfl)
theorem dX0_addCustomer_52 : decode cX0_addCustomer 52 = .ok (.dup, 1) := dk_89 (dk_at dksX0_addCustomer_2 4 rfl rfl)
theorem dX0_addCustomer_53 : decode cX0_addCustomer 53 = .ok (.getfield 58, 3) := dk_180 0 58 (dk_at dksX0_addCustomer_2 5 rfl rfl)
theorem dX0_addCustomer_56 : decode cX0_addCustomer 56 = .ok (.iconst 1, 1) := dk_4 (dk_at dksX0_addCustomer_2 8 rfl rfl)
theorem dX0_addCustomer_57 : decode cX0_addCustomer 57 = .ok (.iadd, 1) := dk_96 (dk_at dksX0_addCustomer_2 9 rfl rfl)
theorem dX0_addCustomer_58 : decode cX0_addCustomer 58 = .ok (.putfield 58, 3) := dk_181 0 58 (dk_at dksX0_addCustomer_2 10 rfl rfl)
theorem dX0_addCustomer_61 : decode cX0_addCustomer 61 = .ok (.aload_n 0, 1) := dk_42 (dk_at dksX0_addCustomer_2 13 rfl rfl)
theorem dX0_addCustomer_62 : decode cX0_addCustomer 62 = .ok (.aload_n 3, 1) := dk_45 (dk_at dksX0_addCustomer_2 14 rfl rfl)
theorem dX0_addCustomer_63 : decode cX0_addCustomer 63 = .ok (.iload_n 2, 1) := dk_28 (dk_at dksX0_addCustomer_2 15 rfl rfl)
theorem dX0_addCustomer_64 : decode cX0_addCustomer 64 = .ok (.invokevirtual 81, 3) := dk_182 0 81 (dk_at dksX0_addCustomer_2 16 rfl rfl)
theorem dX0_addCustomer_67 : decode cX0_addCustomer 67 = .ok (.ireturn, 1) := dk_172 (dk_at dksX0_addCustomer_2 19 rfl rfl)
abbrev cX0_setPrice : ByteArray := prog_1_method_12_code
def yX0_setPrice : MethodName := ⟨RX0, "setPrice", "(II)I"⟩
def dkwX0_setPrice_2 : List UInt8 := [182, 0, 74, 58, 4, 25, 4, 180, 0, 44, 180, 0, 77, 27, 28, 79, 42, 25, 4, 29, 182, 0, 81, 172]
abbrev dktX0_setPrice_2 : List UInt8 := dkwX0_setPrice_2 ++ []
def dkwX0_setPrice_1 : List UInt8 := [42, 180, 0, 10, 180, 0, 44, 180, 0, 77, 27, 46, 62, 29, 28, 160, 0, 6, 16, 251, 172, 42]
abbrev dktX0_setPrice_1 : List UInt8 := dkwX0_setPrice_1 ++ dktX0_setPrice_2
def dkwX0_setPrice_0 : List UInt8 := [42, 27, 182, 0, 88, 154, 0, 5, 2, 172, 28, 3, 17, 3, 231, 184, 0, 54, 154, 0, 6, 16, 254, 172]
abbrev dktX0_setPrice_0 : List UInt8 := dkwX0_setPrice_0 ++ dktX0_setPrice_1
theorem dksX0_setPrice_0 : cX0_setPrice.data.toList.drop 0 = dktX0_setPrice_0 := by decide +kernel
theorem dksX0_setPrice_1 : cX0_setPrice.data.toList.drop 24 = dktX0_setPrice_1 := dk_seg dksX0_setPrice_0 24 rfl rfl
theorem dksX0_setPrice_2 : cX0_setPrice.data.toList.drop 46 = dktX0_setPrice_2 := dk_seg dksX0_setPrice_1 22 rfl rfl
theorem dX0_setPrice_0 : decode cX0_setPrice 0 = .ok (.aload_n 0, 1) := dk_42 (dk_at dksX0_setPrice_0 0 rfl rfl)
theorem dX0_setPrice_1 : decode cX0_setPrice 1 = .ok (.iload_n 1, 1) := dk_27 (dk_at dksX0_setPrice_0 1 rfl rfl)
theorem dX0_setPrice_2 : decode cX0_setPrice 2 = .ok (.invokevirtual 88, 3) := dk_182 0 88 (dk_at dksX0_setPrice_0 2 rfl rfl)
theorem dX0_setPrice_5 : decode cX0_setPrice 5 = .ok (.ifCond .ne 5, 3) := dk_154 0 5 (dk_at dksX0_setPrice_0 5 rfl rfl)
theorem dX0_setPrice_8 : decode cX0_setPrice 8 = .ok (.iconst (-1), 1) := dk_2 (dk_at dksX0_setPrice_0 8 rfl rfl)
theorem dX0_setPrice_9 : decode cX0_setPrice 9 = .ok (.ireturn, 1) := dk_172 (dk_at dksX0_setPrice_0 9 rfl rfl)
theorem dX0_setPrice_10 : decode cX0_setPrice 10 = .ok (.iload_n 2, 1) := dk_28 (dk_at dksX0_setPrice_0 10 rfl rfl)
theorem dX0_setPrice_11 : decode cX0_setPrice 11 = .ok (.iconst 0, 1) := dk_3 (dk_at dksX0_setPrice_0 11 rfl rfl)
theorem dX0_setPrice_12 : decode cX0_setPrice 12 = .ok (.sipush 999, 3) := dk_17 3 231 (dk_at dksX0_setPrice_0 12 rfl rfl)
theorem dX0_setPrice_15 : decode cX0_setPrice 15 = .ok (.invokestatic 54, 3) := dk_184 0 54 (dk_at dksX0_setPrice_0 15 rfl rfl)
theorem dX0_setPrice_18 : decode cX0_setPrice 18 = .ok (.ifCond .ne 6, 3) := dk_154 0 6 (dk_at dksX0_setPrice_0 18 rfl rfl)
theorem dX0_setPrice_21 : decode cX0_setPrice 21 = .ok (.bipush (-2), 2) := dk_16 254 (dk_at dksX0_setPrice_0 21 rfl rfl)
theorem dX0_setPrice_23 : decode cX0_setPrice 23 = .ok (.ireturn, 1) := dk_172 (dk_at dksX0_setPrice_0 23 rfl rfl)
theorem dX0_setPrice_24 : decode cX0_setPrice 24 = .ok (.aload_n 0, 1) := dk_42 (dk_at dksX0_setPrice_1 0 rfl rfl)
theorem dX0_setPrice_25 : decode cX0_setPrice 25 = .ok (.getfield 10, 3) := dk_180 0 10 (dk_at dksX0_setPrice_1 1 rfl rfl)
theorem dX0_setPrice_28 : decode cX0_setPrice 28 = .ok (.getfield 44, 3) := dk_180 0 44 (dk_at dksX0_setPrice_1 4 rfl rfl)
theorem dX0_setPrice_31 : decode cX0_setPrice 31 = .ok (.getfield 77, 3) := dk_180 0 77 (dk_at dksX0_setPrice_1 7 rfl rfl)
theorem dX0_setPrice_34 : decode cX0_setPrice 34 = .ok (.iload_n 1, 1) := dk_27 (dk_at dksX0_setPrice_1 10 rfl rfl)
theorem dX0_setPrice_35 : decode cX0_setPrice 35 = .ok (.iaload, 1) := dk_46 (dk_at dksX0_setPrice_1 11 rfl rfl)
theorem dX0_setPrice_36 : decode cX0_setPrice 36 = .ok (.istore_n 3, 1) := dk_62 (dk_at dksX0_setPrice_1 12 rfl rfl)
theorem dX0_setPrice_37 : decode cX0_setPrice 37 = .ok (.iload_n 3, 1) := dk_29 (dk_at dksX0_setPrice_1 13 rfl rfl)
theorem dX0_setPrice_38 : decode cX0_setPrice 38 = .ok (.iload_n 2, 1) := dk_28 (dk_at dksX0_setPrice_1 14 rfl rfl)
theorem dX0_setPrice_39 : decode cX0_setPrice 39 = .ok (.if_icmp .ne 6, 3) := dk_160 0 6 (dk_at dksX0_setPrice_1 15 rfl rfl)
theorem dX0_setPrice_42 : decode cX0_setPrice 42 = .ok (.bipush (-5), 2) := dk_16 251 (dk_at dksX0_setPrice_1 18 rfl rfl)
theorem dX0_setPrice_44 : decode cX0_setPrice 44 = .ok (.ireturn, 1) := dk_172 (dk_at dksX0_setPrice_1 20 rfl rfl)
theorem dX0_setPrice_45 : decode cX0_setPrice 45 = .ok (.aload_n 0, 1) := dk_42 (dk_at dksX0_setPrice_1 21 rfl rfl)
theorem dX0_setPrice_46 : decode cX0_setPrice 46 = .ok (.invokevirtual 74, 3) := dk_182 0 74 (dk_at dksX0_setPrice_2 0 rfl rfl)
theorem dX0_setPrice_49 : decode cX0_setPrice 49 = .ok (.astore 4, 2) := dk_58 4 (dk_at dksX0_setPrice_2 3 rfl rfl)
theorem dX0_setPrice_51 : decode cX0_setPrice 51 = .ok (.aload 4, 2) := dk_25 4 (dk_at dksX0_setPrice_2 5 rfl rfl)
theorem dX0_setPrice_53 : decode cX0_setPrice 53 = .ok (.getfield 44, 3) := dk_180 0 44 (dk_at dksX0_setPrice_2 7 rfl rfl)
theorem dX0_setPrice_56 : decode cX0_setPrice 56 = .ok (.getfield 77, 3) := dk_180 0 77 (dk_at dksX0_setPrice_2 10 rfl rfl)
theorem dX0_setPrice_59 : decode cX0_setPrice 59 = .ok (.iload_n 1, 1) := dk_27 (dk_at dksX0_setPrice_2 13 rfl rfl)
theorem dX0_setPrice_60 : decode cX0_setPrice 60 = .ok (.iload_n 2, 1) := dk_28 (dk_at dksX0_setPrice_2 14 rfl rfl)
theorem dX0_setPrice_61 : decode cX0_setPrice 61 = .ok (.iastore, 1) := dk_79 (dk_at dksX0_setPrice_2 15 rfl rfl)
theorem dX0_setPrice_62 : decode cX0_setPrice 62 = .ok (.aload_n 0, 1) := dk_42 (dk_at dksX0_setPrice_2 16 rfl rfl)
theorem dX0_setPrice_63 : decode cX0_setPrice 63 = .ok (.aload 4, 2) := dk_25 4 (dk_at dksX0_setPrice_2 17 rfl rfl)
theorem dX0_setPrice_65 : decode cX0_setPrice 65 = .ok (.iload_n 3, 1) := dk_29 (dk_at dksX0_setPrice_2 19 rfl rfl)
theorem dX0_setPrice_66 : decode cX0_setPrice 66 = .ok (.invokevirtual 81, 3) := dk_182 0 81 (dk_at dksX0_setPrice_2 20 rfl rfl)
theorem dX0_setPrice_69 : decode cX0_setPrice 69 = .ok (.ireturn, 1) := dk_172 (dk_at dksX0_setPrice_2 23 rfl rfl)
abbrev cX0_isSite : ByteArray := prog_1_method_5_code
def yX0_isSite : MethodName := ⟨RX0, "isSite", "(I)Z"⟩
def dkwX0_isSite_0 : List UInt8 := [27, 3, 42, 180, 0, 10, 180, 0, 44, 180, 0, 48, 4, 100, 184, 0, 54, 172]
abbrev dktX0_isSite_0 : List UInt8 := dkwX0_isSite_0 ++ []
theorem dksX0_isSite_0 : cX0_isSite.data.toList.drop 0 = dktX0_isSite_0 := by decide +kernel
theorem dX0_isSite_0 : decode cX0_isSite 0 = .ok (.iload_n 1, 1) := dk_27 (dk_at dksX0_isSite_0 0 rfl rfl)
theorem dX0_isSite_1 : decode cX0_isSite 1 = .ok (.iconst 0, 1) := dk_3 (dk_at dksX0_isSite_0 1 rfl rfl)
theorem dX0_isSite_2 : decode cX0_isSite 2 = .ok (.aload_n 0, 1) := dk_42 (dk_at dksX0_isSite_0 2 rfl rfl)
theorem dX0_isSite_3 : decode cX0_isSite 3 = .ok (.getfield 10, 3) := dk_180 0 10 (dk_at dksX0_isSite_0 3 rfl rfl)
theorem dX0_isSite_6 : decode cX0_isSite 6 = .ok (.getfield 44, 3) := dk_180 0 44 (dk_at dksX0_isSite_0 6 rfl rfl)
theorem dX0_isSite_9 : decode cX0_isSite 9 = .ok (.getfield 48, 3) := dk_180 0 48 (dk_at dksX0_isSite_0 9 rfl rfl)
theorem dX0_isSite_12 : decode cX0_isSite 12 = .ok (.iconst 1, 1) := dk_4 (dk_at dksX0_isSite_0 12 rfl rfl)
theorem dX0_isSite_13 : decode cX0_isSite 13 = .ok (.isub, 1) := dk_100 (dk_at dksX0_isSite_0 13 rfl rfl)
theorem dX0_isSite_14 : decode cX0_isSite 14 = .ok (.invokestatic 54, 3) := dk_184 0 54 (dk_at dksX0_isSite_0 14 rfl rfl)
theorem dX0_isSite_17 : decode cX0_isSite 17 = .ok (.ireturn, 1) := dk_172 (dk_at dksX0_isSite_0 17 rfl rfl)
abbrev cX0_setDemand : ByteArray := prog_1_method_13_code
def yX0_setDemand : MethodName := ⟨RX0, "setDemand", "(II)I"⟩
def dkwX0_setDemand_2 : List UInt8 := [58, 4, 25, 4, 180, 0, 44, 180, 0, 85, 27, 28, 79, 42, 25, 4, 29, 182, 0, 81, 172]
abbrev dktX0_setDemand_2 : List UInt8 := dkwX0_setDemand_2 ++ []
def dkwX0_setDemand_1 : List UInt8 := [180, 0, 10, 180, 0, 44, 180, 0, 85, 27, 46, 62, 29, 28, 160, 0, 6, 16, 251, 172, 42, 182, 0, 74]
abbrev dktX0_setDemand_1 : List UInt8 := dkwX0_setDemand_1 ++ dktX0_setDemand_2
def dkwX0_setDemand_0 : List UInt8 := [42, 27, 182, 0, 92, 154, 0, 5, 2, 172, 28, 4, 16, 20, 184, 0, 54, 154, 0, 6, 16, 254, 172, 42]
abbrev dktX0_setDemand_0 : List UInt8 := dkwX0_setDemand_0 ++ dktX0_setDemand_1
theorem dksX0_setDemand_0 : cX0_setDemand.data.toList.drop 0 = dktX0_setDemand_0 := by decide +kernel
theorem dksX0_setDemand_1 : cX0_setDemand.data.toList.drop 24 = dktX0_setDemand_1 := dk_seg dksX0_setDemand_0 24 rfl rfl
theorem dksX0_setDemand_2 : cX0_setDemand.data.toList.drop 48 = dktX0_setDemand_2 := dk_seg dksX0_setDemand_1 24 rfl rfl
theorem dX0_setDemand_0 : decode cX0_setDemand 0 = .ok (.aload_n 0, 1) := dk_42 (dk_at dksX0_setDemand_0 0 rfl rfl)
theorem dX0_setDemand_1 : decode cX0_setDemand 1 = .ok (.iload_n 1, 1) := dk_27 (dk_at dksX0_setDemand_0 1 rfl rfl)
theorem dX0_setDemand_2 : decode cX0_setDemand 2 = .ok (.invokevirtual 92, 3) := dk_182 0 92 (dk_at dksX0_setDemand_0 2 rfl rfl)
theorem dX0_setDemand_5 : decode cX0_setDemand 5 = .ok (.ifCond .ne 5, 3) := dk_154 0 5 (dk_at dksX0_setDemand_0 5 rfl rfl)
theorem dX0_setDemand_8 : decode cX0_setDemand 8 = .ok (.iconst (-1), 1) := dk_2 (dk_at dksX0_setDemand_0 8 rfl rfl)
theorem dX0_setDemand_9 : decode cX0_setDemand 9 = .ok (.ireturn, 1) := dk_172 (dk_at dksX0_setDemand_0 9 rfl rfl)
theorem dX0_setDemand_10 : decode cX0_setDemand 10 = .ok (.iload_n 2, 1) := dk_28 (dk_at dksX0_setDemand_0 10 rfl rfl)
theorem dX0_setDemand_11 : decode cX0_setDemand 11 = .ok (.iconst 1, 1) := dk_4 (dk_at dksX0_setDemand_0 11 rfl rfl)
theorem dX0_setDemand_12 : decode cX0_setDemand 12 = .ok (.bipush 20, 2) := dk_16 20 (dk_at dksX0_setDemand_0 12 rfl rfl)
theorem dX0_setDemand_14 : decode cX0_setDemand 14 = .ok (.invokestatic 54, 3) := dk_184 0 54 (dk_at dksX0_setDemand_0 14 rfl rfl)
theorem dX0_setDemand_17 : decode cX0_setDemand 17 = .ok (.ifCond .ne 6, 3) := dk_154 0 6 (dk_at dksX0_setDemand_0 17 rfl rfl)
theorem dX0_setDemand_20 : decode cX0_setDemand 20 = .ok (.bipush (-2), 2) := dk_16 254 (dk_at dksX0_setDemand_0 20 rfl rfl)
theorem dX0_setDemand_22 : decode cX0_setDemand 22 = .ok (.ireturn, 1) := dk_172 (dk_at dksX0_setDemand_0 22 rfl rfl)
theorem dX0_setDemand_23 : decode cX0_setDemand 23 = .ok (.aload_n 0, 1) := dk_42 (dk_at dksX0_setDemand_0 23 rfl rfl)
theorem dX0_setDemand_24 : decode cX0_setDemand 24 = .ok (.getfield 10, 3) := dk_180 0 10 (dk_at dksX0_setDemand_1 0 rfl rfl)
theorem dX0_setDemand_27 : decode cX0_setDemand 27 = .ok (.getfield 44, 3) := dk_180 0 44 (dk_at dksX0_setDemand_1 3 rfl rfl)
theorem dX0_setDemand_30 : decode cX0_setDemand 30 = .ok (.getfield 85, 3) := dk_180 0 85 (dk_at dksX0_setDemand_1 6 rfl rfl)
theorem dX0_setDemand_33 : decode cX0_setDemand 33 = .ok (.iload_n 1, 1) := dk_27 (dk_at dksX0_setDemand_1 9 rfl rfl)
theorem dX0_setDemand_34 : decode cX0_setDemand 34 = .ok (.iaload, 1) := dk_46 (dk_at dksX0_setDemand_1 10 rfl rfl)
theorem dX0_setDemand_35 : decode cX0_setDemand 35 = .ok (.istore_n 3, 1) := dk_62 (dk_at dksX0_setDemand_1 11 rfl rfl)
theorem dX0_setDemand_36 : decode cX0_setDemand 36 = .ok (.iload_n 3, 1) := dk_29 (dk_at dksX0_setDemand_1 12 rfl rfl)
theorem dX0_setDemand_37 : decode cX0_setDemand 37 = .ok (.iload_n 2, 1) := dk_28 (dk_at dksX0_setDemand_1 13 rfl rfl)
theorem dX0_setDemand_38 : decode cX0_setDemand 38 = .ok (.if_icmp .ne 6, 3) := dk_160 0 6 (dk_at dksX0_setDemand_1 14 rfl rfl)
theorem dX0_setDemand_41 : decode cX0_setDemand 41 = .ok (.bipush (-5), 2) := dk_16 251 (dk_at dksX0_setDemand_1 17 rfl rfl)
theorem dX0_setDemand_43 : decode cX0_setDemand 43 = .ok (.ireturn, 1) := dk_172 (dk_at dksX0_setDemand_1 19 rfl rfl)
theorem dX0_setDemand_44 : decode cX0_setDemand 44 = .ok (.aload_n 0, 1) := dk_42 (dk_at dksX0_setDemand_1 20 rfl rfl)
theorem dX0_setDemand_45 : decode cX0_setDemand 45 = .ok (.invokevirtual 74, 3) := dk_182 0 74 (dk_at dksX0_setDemand_1 21 rfl rfl)
theorem dX0_setDemand_48 : decode cX0_setDemand 48 = .ok (.astore 4, 2) := dk_58 4 (dk_at dksX0_setDemand_2 0 rfl rfl)
theorem dX0_setDemand_50 : decode cX0_setDemand 50 = .ok (.aload 4, 2) := dk_25 4 (dk_at dksX0_setDemand_2 2 rfl rfl)
theorem dX0_setDemand_52 : decode cX0_setDemand 52 = .ok (.getfield 44, 3) := dk_180 0 44 (dk_at dksX0_setDemand_2 4 rfl rfl)
theorem dX0_setDemand_55 : decode cX0_setDemand 55 = .ok (.getfield 85, 3) := dk_180 0 85 (dk_at dksX0_setDemand_2 7 rfl rfl)
theorem dX0_setDemand_58 : decode cX0_setDemand 58 = .ok (.iload_n 1, 1) := dk_27 (dk_at dksX0_setDemand_2 10 rfl rfl)
theorem dX0_setDemand_59 : decode cX0_setDemand 59 = .ok (.iload_n 2, 1) := dk_28 (dk_at dksX0_setDemand_2 11 rfl rfl)
theorem dX0_setDemand_60 : decode cX0_setDemand 60 = .ok (.iastore, 1) := dk_79 (dk_at dksX0_setDemand_2 12 rfl rfl)
theorem dX0_setDemand_61 : decode cX0_setDemand 61 = .ok (.aload_n 0, 1) := dk_42 (dk_at dksX0_setDemand_2 13 rfl rfl)
theorem dX0_setDemand_62 : decode cX0_setDemand 62 = .ok (.aload 4, 2) := dk_25 4 (dk_at dksX0_setDemand_2 14 rfl rfl)
theorem dX0_setDemand_64 : decode cX0_setDemand 64 = .ok (.iload_n 3, 1) := dk_29 (dk_at dksX0_setDemand_2 16 rfl rfl)
theorem dX0_setDemand_65 : decode cX0_setDemand 65 = .ok (.invokevirtual 81, 3) := dk_182 0 81 (dk_at dksX0_setDemand_2 17 rfl rfl)
theorem dX0_setDemand_68 : decode cX0_setDemand 68 = .ok (.ireturn, 1) := dk_172 (dk_at dksX0_setDemand_2 20 rfl rfl)
abbrev cX0_isCustomer : ByteArray := prog_1_method_6_code
def yX0_isCustomer : MethodName := ⟨RX0, "isCustomer", "(I)Z"⟩
def dkwX0_isCustomer_0 : List UInt8 := [27, 3, 42, 180, 0, 10, 180, 0, 44, 180, 0, 58, 4, 100, 184, 0, 54, 172]
abbrev dktX0_isCustomer_0 : List UInt8 := dkwX0_isCustomer_0 ++ []
theorem dksX0_isCustomer_0 : cX0_isCustomer.data.toList.drop 0 = dktX0_isCustomer_0 := by decide +kernel
theorem dX0_isCustomer_0 : decode cX0_isCustomer 0 = .ok (.iload_n 1, 1) := dk_27 (dk_at dksX0_isCustomer_0 0 rfl rfl)
theorem dX0_isCustomer_1 : decode cX0_isCustomer 1 = .ok (.iconst 0, 1) := dk_3 (dk_at dksX0_isCustomer_0 1 rfl rfl)
theorem dX0_isCustomer_2 : decode cX0_isCustomer 2 = .ok (.aload_n 0, 1) := dk_42 (dk_at dksX0_isCustomer_0 2 rfl rfl)
theorem dX0_isCustomer_3 : decode cX0_isCustomer 3 = .ok (.getfield 10, 3) := dk_180 0 10 (dk_at dksX0_isCustomer_0 3 rfl rfl)
theorem dX0_isCustomer_6 : decode cX0_isCustomer 6 = .ok (.getfield 44, 3) := dk_180 0 44 (dk_at dksX0_isCustomer_0 6 rfl rfl)
theorem dX0_isCustomer_9 : decode cX0_isCustomer 9 = .ok (.getfield 58, 3) := dk_180 0 58 (dk_at dksX0_isCustomer_0 9 rfl rfl)
theorem dX0_isCustomer_12 : decode cX0_isCustomer 12 = .ok (.iconst 1, 1) := dk_4 (dk_at dksX0_isCustomer_0 12 rfl rfl)
theorem dX0_isCustomer_13 : decode cX0_isCustomer 13 = .ok (.isub, 1) := dk_100 (dk_at dksX0_isCustomer_0 13 rfl rfl)
theorem dX0_isCustomer_14 : decode cX0_isCustomer 14 = .ok (.invokestatic 54, 3) := dk_184 0 54 (dk_at dksX0_isCustomer_0 14 rfl rfl)
theorem dX0_isCustomer_17 : decode cX0_isCustomer 17 = .ok (.ireturn, 1) := dk_172 (dk_at dksX0_isCustomer_0 17 rfl rfl)
abbrev cX0_setRoute : ByteArray := prog_1_method_14_code
def yX0_setRoute : MethodName := ⟨RX0, "setRoute", "(III)I"⟩
def dkwX0_setRoute_3 : List UInt8 := [16, 8, 27, 104, 28, 96, 29, 79, 42, 25, 5, 21, 4, 182, 0, 81, 172]
abbrev dktX0_setRoute_3 : List UInt8 := dkwX0_setRoute_3 ++ []
def dkwX0_setRoute_2 : List UInt8 := [21, 4, 29, 160, 0, 6, 16, 251, 172, 42, 182, 0, 74, 58, 5, 25, 5, 180, 0, 44, 180, 0, 99]
abbrev dktX0_setRoute_2 : List UInt8 := dkwX0_setRoute_2 ++ dktX0_setRoute_3
def dkwX0_setRoute_1 : List UInt8 := [184, 0, 54, 154, 0, 6, 16, 254, 172, 42, 180, 0, 10, 180, 0, 44, 27, 28, 182, 0, 95, 54, 4]
abbrev dktX0_setRoute_1 : List UInt8 := dkwX0_setRoute_1 ++ dktX0_setRoute_2
def dkwX0_setRoute_0 : List UInt8 := [42, 27, 182, 0, 88, 153, 0, 11, 42, 28, 182, 0, 92, 154, 0, 5, 2, 172, 29, 3, 16, 100]
abbrev dktX0_setRoute_0 : List UInt8 := dkwX0_setRoute_0 ++ dktX0_setRoute_1
theorem dksX0_setRoute_0 : cX0_setRoute.data.toList.drop 0 = dktX0_setRoute_0 := by decide +kernel
theorem dksX0_setRoute_1 : cX0_setRoute.data.toList.drop 22 = dktX0_setRoute_1 := dk_seg dksX0_setRoute_0 22 rfl rfl
theorem dksX0_setRoute_2 : cX0_setRoute.data.toList.drop 45 = dktX0_setRoute_2 := dk_seg dksX0_setRoute_1 23 rfl rfl
theorem dksX0_setRoute_3 : cX0_setRoute.data.toList.drop 68 = dktX0_setRoute_3 := dk_seg dksX0_setRoute_2 23 rfl rfl
theorem dX0_setRoute_0 : decode cX0_setRoute 0 = .ok (.aload_n 0, 1) := dk_42 (dk_at dksX0_setRoute_0 0 rfl rfl)
theorem dX0_setRoute_1 : decode cX0_setRoute 1 = .ok (.iload_n 1, 1) := dk_27 (dk_at dksX0_setRoute_0 1 rfl rfl)
theorem dX0_setRoute_2 : decode cX0_setRoute 2 = .ok (.invokevirtual 88, 3) := dk_182 0 88 (dk_at dksX0_setRoute_0 2 rfl rfl)
theorem dX0_setRoute_5 : decode cX0_setRoute 5 = .ok (.ifCond .eq 11, 3) := dk_153 0 11 (dk_at dksX0_setRoute_0 5 rfl rfl)
theorem dX0_setRoute_8 : decode cX0_setRoute 8 = .ok (.aload_n 0, 1) := dk_42 (dk_at dksX0_setRoute_0 8 rfl rfl)
theorem dX0_setRoute_9 : decode cX0_setRoute 9 = .ok (.iload_n 2, 1) := dk_28 (dk_at dksX0_setRoute_0 9 rfl rfl)
theorem dX0_setRoute_10 : decode cX0_setRoute 10 = .ok (.invokevirtual 92, 3) := dk_182 0 92 (dk_at dksX0_setRoute_0 10 rfl rfl)
theorem dX0_setRoute_13 : decode cX0_setRoute 13 = .ok (.ifCond .ne 5, 3) := dk_154 0 5 (dk_at dksX0_setRoute_0 13 rfl rfl)
theorem dX0_setRoute_16 : decode cX0_setRoute 16 = .ok (.iconst (-1), 1) := dk_2 (dk_at dksX0_setRoute_0 16 rfl rfl)
theorem dX0_setRoute_17 : decode cX0_setRoute 17 = .ok (.ireturn, 1) := dk_172 (dk_at dksX0_setRoute_0 17 rfl rfl)
theorem dX0_setRoute_18 : decode cX0_setRoute 18 = .ok (.iload_n 3, 1) := dk_29 (dk_at dksX0_setRoute_0 18 rfl rfl)
theorem dX0_setRoute_19 : decode cX0_setRoute 19 = .ok (.iconst 0, 1) := dk_3 (dk_at dksX0_setRoute_0 19 rfl rfl)
theorem dX0_setRoute_20 : decode cX0_setRoute 20 = .ok (.bipush 100, 2) := dk_16 100 (dk_at dksX0_setRoute_0 20 rfl rfl)
theorem dX0_setRoute_22 : decode cX0_setRoute 22 = .ok (.invokestatic 54, 3) := dk_184 0 54 (dk_at dksX0_setRoute_1 0 rfl rfl)
theorem dX0_setRoute_25 : decode cX0_setRoute 25 = .ok (.ifCond .ne 6, 3) := dk_154 0 6 (dk_at dksX0_setRoute_1 3 rfl rfl)
theorem dX0_setRoute_28 : decode cX0_setRoute 28 = .ok (.bipush (-2), 2) := dk_16 254 (dk_at dksX0_setRoute_1 6 rfl rfl)
theorem dX0_setRoute_30 : decode cX0_setRoute 30 = .ok (.ireturn, 1) := dk_172 (dk_at dksX0_setRoute_1 8 rfl rfl)
theorem dX0_setRoute_31 : decode cX0_setRoute 31 = .ok (.aload_n 0, 1) := dk_42 (dk_at dksX0_setRoute_1 9 rfl rfl)
theorem dX0_setRoute_32 : decode cX0_setRoute 32 = .ok (.getfield 10, 3) := dk_180 0 10 (dk_at dksX0_setRoute_1 10 rfl rfl)
theorem dX0_setRoute_35 : decode cX0_setRoute 35 = .ok (.getfield 44, 3) := dk_180 0 44 (dk_at dksX0_setRoute_1 13 rfl rfl)
theorem dX0_setRoute_38 : decode cX0_setRoute 38 = .ok (.iload_n 1, 1) := dk_27 (dk_at dksX0_setRoute_1 16 rfl rfl)
theorem dX0_setRoute_39 : decode cX0_setRoute 39 = .ok (.iload_n 2, 1) := dk_28 (dk_at dksX0_setRoute_1 17 rfl rfl)
theorem dX0_setRoute_40 : decode cX0_setRoute 40 = .ok (.invokevirtual 95, 3) := dk_182 0 95 (dk_at dksX0_setRoute_1 18 rfl rfl)
theorem dX0_setRoute_43 : decode cX0_setRoute 43 = .ok (.istore 4, 2) := dk_54 4 (dk_at dksX0_setRoute_1 21 rfl rfl)
theorem dX0_setRoute_45 : decode cX0_setRoute 45 = .ok (.iload 4, 2) := dk_21 4 (dk_at dksX0_setRoute_2 0 rfl rfl)
theorem dX0_setRoute_47 : decode cX0_setRoute 47 = .ok (.iload_n 3, 1) := dk_29 (dk_at dksX0_setRoute_2 2 rfl rfl)
theorem dX0_setRoute_48 : decode cX0_setRoute 48 = .ok (.if_icmp .ne 6, 3) := dk_160 0 6 (dk_at dksX0_setRoute_2 3 rfl rfl)
theorem dX0_setRoute_51 : decode cX0_setRoute 51 = .ok (.bipush (-5), 2) := dk_16 251 (dk_at dksX0_setRoute_2 6 rfl rfl)
theorem dX0_setRoute_53 : decode cX0_setRoute 53 = .ok (.ireturn, 1) := dk_172 (dk_at dksX0_setRoute_2 8 rfl rfl)
theorem dX0_setRoute_54 : decode cX0_setRoute 54 = .ok (.aload_n 0, 1) := dk_42 (dk_at dksX0_setRoute_2 9 rfl rfl)
theorem dX0_setRoute_55 : decode cX0_setRoute 55 = .ok (.invokevirtual 74, 3) := dk_182 0 74 (dk_at dksX0_setRoute_2 10 rfl rfl)
theorem dX0_setRoute_58 : decode cX0_setRoute 58 = .ok (.astore 5, 2) := dk_58 5 (dk_at dksX0_setRoute_2 13 rfl rfl)
theorem dX0_setRoute_60 : decode cX0_setRoute 60 = .ok (.aload 5, 2) := dk_25 5 (dk_at dksX0_setRoute_2 15 rfl rfl)
theorem dX0_setRoute_62 : decode cX0_setRoute 62 = .ok (.getfield 44, 3) := dk_180 0 44 (dk_at dksX0_setRoute_2 17 rfl rfl)
theorem dX0_setRoute_65 : decode cX0_setRoute 65 = .ok (.getfield 99, 3) := dk_180 0 99 (dk_at dksX0_setRoute_2 20 rfl rfl)
theorem dX0_setRoute_68 : decode cX0_setRoute 68 = .ok (.bipush 8, 2) := dk_16 8 (dk_at dksX0_setRoute_3 0 rfl rfl)
theorem dX0_setRoute_70 : decode cX0_setRoute 70 = .ok (.iload_n 1, 1) := dk_27 (dk_at dksX0_setRoute_3 2 rfl rfl)
theorem dX0_setRoute_71 : decode cX0_setRoute 71 = .ok (.imul, 1) := dk_104 (dk_at dksX0_setRoute_3 3 rfl rfl)
theorem dX0_setRoute_72 : decode cX0_setRoute 72 = .ok (.iload_n 2, 1) := dk_28 (dk_at dksX0_setRoute_3 4 rfl rfl)
theorem dX0_setRoute_73 : decode cX0_setRoute 73 = .ok (.iadd, 1) := dk_96 (dk_at dksX0_setRoute_3 5 rfl rfl)
theorem dX0_setRoute_74 : decode cX0_setRoute 74 = .ok (.iload_n 3, 1) := dk_29 (dk_at dksX0_setRoute_3 6 rfl rfl)
theorem dX0_setRoute_75 : decode cX0_setRoute 75 = .ok (.iastore, 1) := dk_79 (dk_at dksX0_setRoute_3 7 rfl rfl)
theorem dX0_setRoute_76 : decode cX0_setRoute 76 = .ok (.aload_n 0, 1) := dk_42 (dk_at dksX0_setRoute_3 8 rfl rfl)
theorem dX0_setRoute_77 : decode cX0_setRoute 77 = .ok (.aload 5, 2) := dk_25 5 (dk_at dksX0_setRoute_3 9 rfl rfl)
theorem dX0_setRoute_79 : decode cX0_setRoute 79 = .ok (.iload 4, 2) := dk_21 4 (dk_at dksX0_setRoute_3 11 rfl rfl)
theorem dX0_setRoute_81 : decode cX0_setRoute 81 = .ok (.invokevirtual 81, 3) := dk_182 0 81 (dk_at dksX0_setRoute_3 13 rfl rfl)
theorem dX0_setRoute_84 : decode cX0_setRoute 84 = .ok (.ireturn, 1) := dk_172 (dk_at dksX0_setRoute_3 16 rfl rfl)
abbrev cX0_setMost : ByteArray := prog_1_method_15_code
def yX0_setMost : MethodName := ⟨RX0, "setMost", "(I)I"⟩
def dkwX0_setMost_2 : List UInt8 := [45, 16, 251, 181, 0, 105, 42, 45, 28, 182, 0, 81, 172]
abbrev dktX0_setMost_2 : List UInt8 := dkwX0_setMost_2 ++ []
def dkwX0_setMost_1 : List UInt8 := [28, 27, 160, 0, 6, 16, 251, 172, 42, 180, 0, 10, 182, 0, 67, 78, 45, 180, 0, 44, 27, 181, 0, 102]
abbrev dktX0_setMost_1 : List UInt8 := dkwX0_setMost_1 ++ dktX0_setMost_2
def dkwX0_setMost_0 : List UInt8 := [27, 4, 16, 7, 184, 0, 54, 154, 0, 6, 16, 254, 172, 42, 180, 0, 10, 180, 0, 44, 180, 0, 102, 61]
abbrev dktX0_setMost_0 : List UInt8 := dkwX0_setMost_0 ++ dktX0_setMost_1
theorem dksX0_setMost_0 : cX0_setMost.data.toList.drop 0 = dktX0_setMost_0 := by decide +kernel
theorem dksX0_setMost_1 : cX0_setMost.data.toList.drop 24 = dktX0_setMost_1 := dk_seg dksX0_setMost_0 24 rfl rfl
theorem dksX0_setMost_2 : cX0_setMost.data.toList.drop 48 = dktX0_setMost_2 := dk_seg dksX0_setMost_1 24 rfl rfl
theorem dX0_setMost_0 : decode cX0_setMost 0 = .ok (.iload_n 1, 1) := dk_27 (dk_at dksX0_setMost_0 0 rfl rfl)
theorem dX0_setMost_1 : decode cX0_setMost 1 = .ok (.iconst 1, 1) := dk_4 (dk_at dksX0_setMost_0 1 rfl rfl)
theorem dX0_setMost_2 : decode cX0_setMost 2 = .ok (.bipush 7, 2) := dk_16 7 (dk_at dksX0_setMost_0 2 rfl rfl)
theorem dX0_setMost_4 : decode cX0_setMost 4 = .ok (.invokestatic 54, 3) := dk_184 0 54 (dk_at dksX0_setMost_0 4 rfl rfl)
theorem dX0_setMost_7 : decode cX0_setMost 7 = .ok (.ifCond .ne 6, 3) := dk_154 0 6 (dk_at dksX0_setMost_0 7 rfl rfl)
theorem dX0_setMost_10 : decode cX0_setMost 10 = .ok (.bipush (-2), 2) := dk_16 254 (dk_at dksX0_setMost_0 10 rfl rfl)
theorem dX0_setMost_12 : decode cX0_setMost 12 = .ok (.ireturn, 1) := dk_172 (dk_at dksX0_setMost_0 12 rfl rfl)
theorem dX0_setMost_13 : decode cX0_setMost 13 = .ok (.aload_n 0, 1) := dk_42 (dk_at dksX0_setMost_0 13 rfl rfl)
theorem dX0_setMost_14 : decode cX0_setMost 14 = .ok (.getfield 10, 3) := dk_180 0 10 (dk_at dksX0_setMost_0 14 rfl rfl)
theorem dX0_setMost_17 : decode cX0_setMost 17 = .ok (.getfield 44, 3) := dk_180 0 44 (dk_at dksX0_setMost_0 17 rfl rfl)
theorem dX0_setMost_20 : decode cX0_setMost 20 = .ok (.getfield 102, 3) := dk_180 0 102 (dk_at dksX0_setMost_0 20 rfl rfl)
theorem dX0_setMost_23 : decode cX0_setMost 23 = .ok (.istore_n 2, 1) := dk_61 (dk_at dksX0_setMost_0 23 rfl rfl)
theorem dX0_setMost_24 : decode cX0_setMost 24 = .ok (.iload_n 2, 1) := dk_28 (dk_at dksX0_setMost_1 0 rfl rfl)
theorem dX0_setMost_25 : decode cX0_setMost 25 = .ok (.iload_n 1, 1) := dk_27 (dk_at dksX0_setMost_1 1 rfl rfl)
theorem dX0_setMost_26 : decode cX0_setMost 26 = .ok (.if_icmp .ne 6, 3) := dk_160 0 6 (dk_at dksX0_setMost_1 2 rfl rfl)
theorem dX0_setMost_29 : decode cX0_setMost 29 = .ok (.bipush (-5), 2) := dk_16 251 (dk_at dksX0_setMost_1 5 rfl rfl)
theorem dX0_setMost_31 : decode cX0_setMost 31 = .ok (.ireturn, 1) := dk_172 (dk_at dksX0_setMost_1 7 rfl rfl)
theorem dX0_setMost_32 : decode cX0_setMost 32 = .ok (.aload_n 0, 1) := dk_42 (dk_at dksX0_setMost_1 8 rfl rfl)
theorem dX0_setMost_33 : decode cX0_setMost 33 = .ok (.getfield 10, 3) := dk_180 0 10 (dk_at dksX0_setMost_1 9 rfl rfl)
theorem dX0_setMost_36 : decode cX0_setMost 36 = .ok (.invokevirtual 67, 3) := dk_182 0 67 (dk_at dksX0_setMost_1 12 rfl rfl)
theorem dX0_setMost_39 : decode cX0_setMost 39 = .ok (.astore_n 3, 1) := dk_78 (dk_at dksX0_setMost_1 15 rfl rfl)
theorem dX0_setMost_40 : decode cX0_setMost 40 = .ok (.aload_n 3, 1) := dk_45 (dk_at dksX0_setMost_1 16 rfl rfl)
theorem dX0_setMost_41 : decode cX0_setMost 41 = .ok (.getfield 44, 3) := dk_180 0 44 (dk_at dksX0_setMost_1 17 rfl rfl)
theorem dX0_setMost_44 : decode cX0_setMost 44 = .ok (.iload_n 1, 1) := dk_27 (dk_at dksX0_setMost_1 20 rfl rfl)
theorem dX0_setMost_45 : decode cX0_setMost 45 = .ok (.putfield 102, 3) := dk_181 0 102 (dk_at dksX0_setMost_1 21 rfl rfl)
theorem dX0_setMost_48 : decode cX0_setMost 48 = .ok (.aload_n 3, 1) := dk_45 (dk_at dksX0_setMost_2 0 rfl rfl)
theorem dX0_setMost_49 : decode cX0_setMost 49 = .ok (.bipush (-5), 2) := dk_16 251 (dk_at dksX0_setMost_2 1 rfl rfl)
theorem dX0_setMost_51 : decode cX0_setMost 51 = .ok (.putfield 105, 3) := dk_181 0 105 (dk_at dksX0_setMost_2 3 rfl rfl)
theorem dX0_setMost_54 : decode cX0_setMost 54 = .ok (.aload_n 0, 1) := dk_42 (dk_at dksX0_setMost_2 6 rfl rfl)
theorem dX0_setMost_55 : decode cX0_setMost 55 = .ok (.aload_n 3, 1) := dk_45 (dk_at dksX0_setMost_2 7 rfl rfl)
theorem dX0_setMost_56 : decode cX0_setMost 56 = .ok (.iload_n 2, 1) := dk_28 (dk_at dksX0_setMost_2 8 rfl rfl)
theorem dX0_setMost_57 : decode cX0_setMost 57 = .ok (.invokevirtual 81, 3) := dk_182 0 81 (dk_at dksX0_setMost_2 9 rfl rfl)
theorem dX0_setMost_60 : decode cX0_setMost 60 = .ok (.ireturn, 1) := dk_172 (dk_at dksX0_setMost_2 12 rfl rfl)
abbrev cX0_exclude : ByteArray := prog_1_method_16_code
def yX0_exclude : MethodName := ⟨RX0, "exclude", "(IIZ)I"⟩
def dkwX0_exclude_4 : List UInt8 := [181, 0, 105, 42, 25, 4, 25, 4, 180, 0, 44, 180, 0, 108, 27, 46, 184, 0, 115, 182, 0, 81, 172]
abbrev dktX0_exclude_4 : List UInt8 := dkwX0_exclude_4 ++ []
def dkwX0_exclude_3 : List UInt8 := [28, 120, 130, 79, 25, 4, 180, 0, 44, 180, 0, 108, 28, 92, 46, 4, 27, 120, 130, 79, 25, 4, 16, 251]
abbrev dktX0_exclude_3 : List UInt8 := dkwX0_exclude_3 ++ dktX0_exclude_4
def dkwX0_exclude_2 : List UInt8 := [16, 251, 172, 42, 180, 0, 10, 182, 0, 67, 58, 4, 25, 4, 180, 0, 44, 180, 0, 108, 27, 92, 46, 4]
abbrev dktX0_exclude_2 : List UInt8 := dkwX0_exclude_2 ++ dktX0_exclude_3
def dkwX0_exclude_1 : List UInt8 := [16, 254, 172, 42, 180, 0, 10, 180, 0, 44, 180, 0, 108, 27, 46, 28, 184, 0, 111, 29, 160, 0, 6]
abbrev dktX0_exclude_1 : List UInt8 := dkwX0_exclude_1 ++ dktX0_exclude_2
def dkwX0_exclude_0 : List UInt8 := [42, 27, 182, 0, 88, 153, 0, 11, 42, 28, 182, 0, 88, 154, 0, 5, 2, 172, 27, 28, 160, 0, 6]
abbrev dktX0_exclude_0 : List UInt8 := dkwX0_exclude_0 ++ dktX0_exclude_1
theorem dksX0_exclude_0 : cX0_exclude.data.toList.drop 0 = dktX0_exclude_0 := by decide +kernel
theorem dksX0_exclude_1 : cX0_exclude.data.toList.drop 23 = dktX0_exclude_1 := dk_seg dksX0_exclude_0 23 rfl rfl
theorem dksX0_exclude_2 : cX0_exclude.data.toList.drop 46 = dktX0_exclude_2 := dk_seg dksX0_exclude_1 23 rfl rfl
theorem dksX0_exclude_3 : cX0_exclude.data.toList.drop 70 = dktX0_exclude_3 := dk_seg dksX0_exclude_2 24 rfl rfl
theorem dksX0_exclude_4 : cX0_exclude.data.toList.drop 94 = dktX0_exclude_4 := dk_seg dksX0_exclude_3 24 rfl rfl
theorem dX0_exclude_0 : decode cX0_exclude 0 = .ok (.aload_n 0, 1) := dk_42 (dk_at dksX0_exclude_0 0 rfl rfl)
theorem dX0_exclude_1 : decode cX0_exclude 1 = .ok (.iload_n 1, 1) := dk_27 (dk_at dksX0_exclude_0 1 rfl rfl)
theorem dX0_exclude_2 : decode cX0_exclude 2 = .ok (.invokevirtual 88, 3) := dk_182 0 88 (dk_at dksX0_exclude_0 2 rfl rfl)
theorem dX0_exclude_5 : decode cX0_exclude 5 = .ok (.ifCond .eq 11, 3) := dk_153 0 11 (dk_at dksX0_exclude_0 5 rfl rfl)
theorem dX0_exclude_8 : decode cX0_exclude 8 = .ok (.aload_n 0, 1) := dk_42 (dk_at dksX0_exclude_0 8 rfl rfl)
theorem dX0_exclude_9 : decode cX0_exclude 9 = .ok (.iload_n 2, 1) := dk_28 (dk_at dksX0_exclude_0 9 rfl rfl)
theorem dX0_exclude_10 : decode cX0_exclude 10 = .ok (.invokevirtual 88, 3) := dk_182 0 88 (dk_at dksX0_exclude_0 10 rfl rfl)
theorem dX0_exclude_13 : decode cX0_exclude 13 = .ok (.ifCond .ne 5, 3) := dk_154 0 5 (dk_at dksX0_exclude_0 13 rfl rfl)
theorem dX0_exclude_16 : decode cX0_exclude 16 = .ok (.iconst (-1), 1) := dk_2 (dk_at dksX0_exclude_0 16 rfl rfl)
theorem dX0_exclude_17 : decode cX0_exclude 17 = .ok (.ireturn, 1) := dk_172 (dk_at dksX0_exclude_0 17 rfl rfl)
theorem dX0_exclude_18 : decode cX0_exclude 18 = .ok (.iload_n 1, 1) := dk_27 (dk_at dksX0_exclude_0 18 rfl rfl)
theorem dX0_exclude_19 : decode cX0_exclude 19 = .ok (.iload_n 2, 1) := dk_28 (dk_at dksX0_exclude_0 19 rfl rfl)
theorem dX0_exclude_20 : decode cX0_exclude 20 = .ok (.if_icmp .ne 6, 3) := dk_160 0 6 (dk_at dksX0_exclude_0 20 rfl rfl)
theorem dX0_exclude_23 : decode cX0_exclude 23 = .ok (.bipush (-2), 2) := dk_16 254 (dk_at dksX0_exclude_1 0 rfl rfl)
theorem dX0_exclude_25 : decode cX0_exclude 25 = .ok (.ireturn, 1) := dk_172 (dk_at dksX0_exclude_1 2 rfl rfl)
theorem dX0_exclude_26 : decode cX0_exclude 26 = .ok (.aload_n 0, 1) := dk_42 (dk_at dksX0_exclude_1 3 rfl rfl)
theorem dX0_exclude_27 : decode cX0_exclude 27 = .ok (.getfield 10, 3) := dk_180 0 10 (dk_at dksX0_exclude_1 4 rfl rfl)
theorem dX0_exclude_30 : decode cX0_exclude 30 = .ok (.getfield 44, 3) := dk_180 0 44 (dk_at dksX0_exclude_1 7 rfl rfl)
theorem dX0_exclude_33 : decode cX0_exclude 33 = .ok (.getfield 108, 3) := dk_180 0 108 (dk_at dksX0_exclude_1 10 rfl rfl)
theorem dX0_exclude_36 : decode cX0_exclude 36 = .ok (.iload_n 1, 1) := dk_27 (dk_at dksX0_exclude_1 13 rfl rfl)
theorem dX0_exclude_37 : decode cX0_exclude 37 = .ok (.iaload, 1) := dk_46 (dk_at dksX0_exclude_1 14 rfl rfl)
theorem dX0_exclude_38 : decode cX0_exclude 38 = .ok (.iload_n 2, 1) := dk_28 (dk_at dksX0_exclude_1 15 rfl rfl)
theorem dX0_exclude_39 : decode cX0_exclude 39 = .ok (.invokestatic 111, 3) := dk_184 0 111 (dk_at dksX0_exclude_1 16 rfl rfl)
theorem dX0_exclude_42 : decode cX0_exclude 42 = .ok (.iload_n 3, 1) := dk_29 (dk_at dksX0_exclude_1 19 rfl rfl)
theorem dX0_exclude_43 : decode cX0_exclude 43 = .ok (.if_icmp .ne 6, 3) := dk_160 0 6 (dk_at dksX0_exclude_1 20 rfl rfl)
theorem dX0_exclude_46 : decode cX0_exclude 46 = .ok (.bipush (-5), 2) := dk_16 251 (dk_at dksX0_exclude_2 0 rfl rfl)
theorem dX0_exclude_48 : decode cX0_exclude 48 = .ok (.ireturn, 1) := dk_172 (dk_at dksX0_exclude_2 2 rfl rfl)
theorem dX0_exclude_49 : decode cX0_exclude 49 = .ok (.aload_n 0, 1) := dk_42 (dk_at dksX0_exclude_2 3 rfl rfl)
theorem dX0_exclude_50 : decode cX0_exclude 50 = .ok (.getfield 10, 3) := dk_180 0 10 (dk_at dksX0_exclude_2 4 rfl rfl)
theorem dX0_exclude_53 : decode cX0_exclude 53 = .ok (.invokevirtual 67, 3) := dk_182 0 67 (dk_at dksX0_exclude_2 7 rfl rfl)
theorem dX0_exclude_56 : decode cX0_exclude 56 = .ok (.astore 4, 2) := dk_58 4 (dk_at dksX0_exclude_2 10 rfl rfl)
theorem dX0_exclude_58 : decode cX0_exclude 58 = .ok (.aload 4, 2) := dk_25 4 (dk_at dksX0_exclude_2 12 rfl rfl)
theorem dX0_exclude_60 : decode cX0_exclude 60 = .ok (.getfield 44, 3) := dk_180 0 44 (dk_at dksX0_exclude_2 14 rfl rfl)
theorem dX0_exclude_63 : decode cX0_exclude 63 = .ok (.getfield 108, 3) := dk_180 0 108 (dk_at dksX0_exclude_2 17 rfl rfl)
theorem dX0_exclude_66 : decode cX0_exclude 66 = .ok (.iload_n 1, 1) := dk_27 (dk_at dksX0_exclude_2 20 rfl rfl)
theorem dX0_exclude_67 : decode cX0_exclude 67 = .ok (.dup2, 1) := dk_92 (dk_at dksX0_exclude_2 21 rfl rfl)
theorem dX0_exclude_68 : decode cX0_exclude 68 = .ok (.iaload, 1) := dk_46 (dk_at dksX0_exclude_2 22 rfl rfl)
theorem dX0_exclude_69 : decode cX0_exclude 69 = .ok (.iconst 1, 1) := dk_4 (dk_at dksX0_exclude_2 23 rfl rfl)
theorem dX0_exclude_70 : decode cX0_exclude 70 = .ok (.iload_n 2, 1) := dk_28 (dk_at dksX0_exclude_3 0 rfl rfl)
theorem dX0_exclude_71 : decode cX0_exclude 71 = .ok (.ishl, 1) := dk_120 (dk_at dksX0_exclude_3 1 rfl rfl)
theorem dX0_exclude_72 : decode cX0_exclude 72 = .ok (.ixor, 1) := dk_130 (dk_at dksX0_exclude_3 2 rfl rfl)
theorem dX0_exclude_73 : decode cX0_exclude 73 = .ok (.iastore, 1) := dk_79 (dk_at dksX0_exclude_3 3 rfl rfl)
theorem dX0_exclude_74 : decode cX0_exclude 74 = .ok (.aload 4, 2) := dk_25 4 (dk_at dksX0_exclude_3 4 rfl rfl)
theorem dX0_exclude_76 : decode cX0_exclude 76 = .ok (.getfield 44, 3) := dk_180 0 44 (dk_at dksX0_exclude_3 6 rfl rfl)
theorem dX0_exclude_79 : decode cX0_exclude 79 = .ok (.getfield 108, 3) := dk_180 0 108 (dk_at dksX0_exclude_3 9 rfl rfl)
theorem dX0_exclude_82 : decode cX0_exclude 82 = .ok (.iload_n 2, 1) := dk_28 (dk_at dksX0_exclude_3 12 rfl rfl)
theorem dX0_exclude_83 : decode cX0_exclude 83 = .ok (.dup2, 1) := dk_92 (dk_at dksX0_exclude_3 13 rfl rfl)
theorem dX0_exclude_84 : decode cX0_exclude 84 = .ok (.iaload, 1) := dk_46 (dk_at dksX0_exclude_3 14 rfl rfl)
theorem dX0_exclude_85 : decode cX0_exclude 85 = .ok (.iconst 1, 1) := dk_4 (dk_at dksX0_exclude_3 15 rfl rfl)
theorem dX0_exclude_86 : decode cX0_exclude 86 = .ok (.iload_n 1, 1) := dk_27 (dk_at dksX0_exclude_3 16 rfl rfl)
theorem dX0_exclude_87 : decode cX0_exclude 87 = .ok (.ishl, 1) := dk_120 (dk_at dksX0_exclude_3 17 rfl rfl)
theorem dX0_exclude_88 : decode cX0_exclude 88 = .ok (.ixor, 1) := dk_130 (dk_at dksX0_exclude_3 18 rfl rfl)
theorem dX0_exclude_89 : decode cX0_exclude 89 = .ok (.iastore, 1) := dk_79 (dk_at dksX0_exclude_3 19 rfl rfl)
theorem dX0_exclude_90 : decode cX0_exclude 90 = .ok (.aload 4, 2) := dk_25 4 (dk_at dksX0_exclude_3 20 rfl rfl)
theorem dX0_exclude_92 : decode cX0_exclude 92 = .ok (.bipush (-5), 2) := dk_16 251 (dk_at dksX0_exclude_3 22 rfl rfl)
theorem dX0_exclude_94 : decode cX0_exclude 94 = .ok (.putfield 105, 3) := dk_181 0 105 (dk_at dksX0_exclude_4 0 rfl rfl)
theorem dX0_exclude_97 : decode cX0_exclude 97 = .ok (.aload_n 0, 1) := dk_42 (dk_at dksX0_exclude_4 3 rfl rfl)
theorem dX0_exclude_98 : decode cX0_exclude 98 = .ok (.aload 4, 2) := dk_25 4 (dk_at dksX0_exclude_4 4 rfl rfl)
theorem dX0_exclude_100 : decode cX0_exclude 100 = .ok (.aload 4, 2) := dk_25 4 (dk_at dksX0_exclude_4 6 rfl rfl)
theorem dX0_exclude_102 : decode cX0_exclude 102 = .ok (.getfield 44, 3) := dk_180 0 44 (dk_at dksX0_exclude_4 8 rfl rfl)
theorem dX0_exclude_105 : decode cX0_exclude 105 = .ok (.getfield 108, 3) := dk_180 0 108 (dk_at dksX0_exclude_4 11 rfl rfl)
theorem dX0_exclude_108 : decode cX0_exclude 108 = .ok (.iload_n 1, 1) := dk_27 (dk_at dksX0_exclude_4 14 rfl rfl)
theorem dX0_exclude_109 : decode cX0_exclude 109 = .ok (.iaload, 1) := dk_46 (dk_at dksX0_exclude_4 15 rfl rfl)
theorem dX0_exclude_110 : decode cX0_exclude 110 = .ok (.invokestatic 115, 3) := dk_184 0 115 (dk_at dksX0_exclude_4 16 rfl rfl)
theorem dX0_exclude_113 : decode cX0_exclude 113 = .ok (.invokevirtual 81, 3) := dk_182 0 81 (dk_at dksX0_exclude_4 19 rfl rfl)
theorem dX0_exclude_116 : decode cX0_exclude 116 = .ok (.ireturn, 1) := dk_172 (dk_at dksX0_exclude_4 22 rfl rfl)
abbrev cX0_has : ByteArray := prog_1_method_2_code
def yX0_has : MethodName := ⟨RX0, "has", "(II)Z"⟩
def dkwX0_has_0 : List UInt8 := [26, 27, 122, 4, 126, 4, 160, 0, 7, 4, 167, 0, 4, 3, 172]
abbrev dktX0_has_0 : List UInt8 := dkwX0_has_0 ++ []
theorem dksX0_has_0 : cX0_has.data.toList.drop 0 = dktX0_has_0 := by decide +kernel
theorem dX0_has_0 : decode cX0_has 0 = .ok (.iload_n 0, 1) := dk_26 (dk_at dksX0_has_0 0 rfl rfl)
theorem dX0_has_1 : decode cX0_has 1 = .ok (.iload_n 1, 1) := dk_27 (dk_at dksX0_has_0 1 rfl rfl)
theorem dX0_has_2 : decode cX0_has 2 = .ok (.ishr, 1) := dk_122 (dk_at dksX0_has_0 2 rfl rfl)
theorem dX0_has_3 : decode cX0_has 3 = .ok (.iconst 1, 1) := dk_4 (dk_at dksX0_has_0 3 rfl rfl)
theorem dX0_has_4 : decode cX0_has 4 = .ok (.iand, 1) := dk_126 (dk_at dksX0_has_0 4 rfl rfl)
theorem dX0_has_5 : decode cX0_has 5 = .ok (.iconst 1, 1) := dk_4 (dk_at dksX0_has_0 5 rfl rfl)
theorem dX0_has_6 : decode cX0_has 6 = .ok (.if_icmp .ne 7, 3) := dk_160 0 7 (dk_at dksX0_has_0 6 rfl rfl)
theorem dX0_has_9 : decode cX0_has 9 = .ok (.iconst 1, 1) := dk_4 (dk_at dksX0_has_0 9 rfl rfl)
theorem dX0_has_10 : decode cX0_has 10 = .ok (.goto 4, 3) := dk_167 0 4 (dk_at dksX0_has_0 10 rfl rfl)
theorem dX0_has_13 : decode cX0_has 13 = .ok (.iconst 0, 1) := dk_3 (dk_at dksX0_has_0 13 rfl rfl)
theorem dX0_has_14 : decode cX0_has 14 = .ok (.ireturn, 1) := dk_172 (dk_at dksX0_has_0 14 rfl rfl)
abbrev cX0_step : ByteArray := prog_1_method_17_code
def yX0_step : MethodName := ⟨RX0, "step", "()I"⟩
def dkwX0_step_0 : List UInt8 := [42, 180, 0, 10, 182, 0, 67, 76, 42, 43, 43, 182, 0, 121, 182, 0, 81, 172]
abbrev dktX0_step_0 : List UInt8 := dkwX0_step_0 ++ []
theorem dksX0_step_0 : cX0_step.data.toList.drop 0 = dktX0_step_0 := by decide +kernel
theorem dX0_step_0 : decode cX0_step 0 = .ok (.aload_n 0, 1) := dk_42 (dk_at dksX0_step_0 0 rfl rfl)
theorem dX0_step_1 : decode cX0_step 1 = .ok (.getfield 10, 3) := dk_180 0 10 (dk_at dksX0_step_0 1 rfl rfl)
theorem dX0_step_4 : decode cX0_step 4 = .ok (.invokevirtual 67, 3) := dk_182 0 67 (dk_at dksX0_step_0 4 rfl rfl)
theorem dX0_step_7 : decode cX0_step 7 = .ok (.astore_n 1, 1) := dk_76 (dk_at dksX0_step_0 7 rfl rfl)
theorem dX0_step_8 : decode cX0_step 8 = .ok (.aload_n 0, 1) := dk_42 (dk_at dksX0_step_0 8 rfl rfl)
theorem dX0_step_9 : decode cX0_step 9 = .ok (.aload_n 1, 1) := dk_43 (dk_at dksX0_step_0 9 rfl rfl)
theorem dX0_step_10 : decode cX0_step 10 = .ok (.aload_n 1, 1) := dk_43 (dk_at dksX0_step_0 10 rfl rfl)
theorem dX0_step_11 : decode cX0_step 11 = .ok (.invokevirtual 121, 3) := dk_182 0 121 (dk_at dksX0_step_0 11 rfl rfl)
theorem dX0_step_14 : decode cX0_step 14 = .ok (.invokevirtual 81, 3) := dk_182 0 81 (dk_at dksX0_step_0 14 rfl rfl)
theorem dX0_step_17 : decode cX0_step 17 = .ok (.ireturn, 1) := dk_172 (dk_at dksX0_step_0 17 rfl rfl)
abbrev cX0_solve : ByteArray := prog_1_method_18_code
def yX0_solve : MethodName := ⟨RX0, "solve", "()I"⟩
def dkwX0_solve_3 : List UInt8 := [182, 0, 81, 172]
abbrev dktX0_solve_3 : List UInt8 := dkwX0_solve_3 ++ []
def dkwX0_solve_2 : List UInt8 := [16, 253, 160, 0, 8, 16, 253, 167, 0, 19, 42, 43, 43, 180, 0, 61, 185, 0, 30, 1, 0, 28, 100]
abbrev dktX0_solve_2 : List UInt8 := dkwX0_solve_2 ++ dktX0_solve_3
def dkwX0_solve_1 : List UInt8 := [156, 0, 5, 29, 172, 29, 153, 0, 8, 29, 4, 160, 0, 11, 43, 182, 0, 121, 62, 167, 255, 242, 29]
abbrev dktX0_solve_1 : List UInt8 := dkwX0_solve_1 ++ dktX0_solve_2
def dkwX0_solve_0 : List UInt8 := [42, 180, 0, 10, 182, 0, 67, 76, 43, 180, 0, 61, 185, 0, 30, 1, 0, 61, 43, 182, 0, 121, 62, 29]
abbrev dktX0_solve_0 : List UInt8 := dkwX0_solve_0 ++ dktX0_solve_1
theorem dksX0_solve_0 : cX0_solve.data.toList.drop 0 = dktX0_solve_0 := by decide +kernel
theorem dksX0_solve_1 : cX0_solve.data.toList.drop 24 = dktX0_solve_1 := dk_seg dksX0_solve_0 24 rfl rfl
theorem dksX0_solve_2 : cX0_solve.data.toList.drop 47 = dktX0_solve_2 := dk_seg dksX0_solve_1 23 rfl rfl
theorem dksX0_solve_3 : cX0_solve.data.toList.drop 70 = dktX0_solve_3 := dk_seg dksX0_solve_2 23 rfl rfl
theorem dX0_solve_0 : decode cX0_solve 0 = .ok (.aload_n 0, 1) := dk_42 (dk_at dksX0_solve_0 0 rfl rfl)
theorem dX0_solve_1 : decode cX0_solve 1 = .ok (.getfield 10, 3) := dk_180 0 10 (dk_at dksX0_solve_0 1 rfl rfl)
theorem dX0_solve_4 : decode cX0_solve 4 = .ok (.invokevirtual 67, 3) := dk_182 0 67 (dk_at dksX0_solve_0 4 rfl rfl)
theorem dX0_solve_7 : decode cX0_solve 7 = .ok (.astore_n 1, 1) := dk_76 (dk_at dksX0_solve_0 7 rfl rfl)
theorem dX0_solve_8 : decode cX0_solve 8 = .ok (.aload_n 1, 1) := dk_43 (dk_at dksX0_solve_0 8 rfl rfl)
theorem dX0_solve_9 : decode cX0_solve 9 = .ok (.getfield 61, 3) := dk_180 0 61 (dk_at dksX0_solve_0 9 rfl rfl)
theorem dX0_solve_12 : decode cX0_solve 12 = .ok (.invokeinterface 30 1, 5) := by decide +kernel
theorem dX0_solve_17 : decode cX0_solve 17 = .ok (.istore_n 2, 1) := dk_61 (dk_at dksX0_solve_0 17 rfl rfl)
theorem dX0_solve_18 : decode cX0_solve 18 = .ok (.aload_n 1, 1) := dk_43 (dk_at dksX0_solve_0 18 rfl rfl)
theorem dX0_solve_19 : decode cX0_solve 19 = .ok (.invokevirtual 121, 3) := dk_182 0 121 (dk_at dksX0_solve_0 19 rfl rfl)
theorem dX0_solve_22 : decode cX0_solve 22 = .ok (.istore_n 3, 1) := dk_62 (dk_at dksX0_solve_0 22 rfl rfl)
theorem dX0_solve_23 : decode cX0_solve 23 = .ok (.iload_n 3, 1) := dk_29 (dk_at dksX0_solve_0 23 rfl rfl)
theorem dX0_solve_24 : decode cX0_solve 24 = .ok (.ifCond .ge 5, 3) := dk_156 0 5 (dk_at dksX0_solve_1 0 rfl rfl)
theorem dX0_solve_27 : decode cX0_solve 27 = .ok (.iload_n 3, 1) := dk_29 (dk_at dksX0_solve_1 3 rfl rfl)
theorem dX0_solve_28 : decode cX0_solve 28 = .ok (.ireturn, 1) := dk_172 (dk_at dksX0_solve_1 4 rfl rfl)
theorem dX0_solve_29 : decode cX0_solve 29 = .ok (.iload_n 3, 1) := dk_29 (dk_at dksX0_solve_1 5 rfl rfl)
theorem dX0_solve_30 : decode cX0_solve 30 = .ok (.ifCond .eq 8, 3) := dk_153 0 8 (dk_at dksX0_solve_1 6 rfl rfl)
theorem dX0_solve_33 : decode cX0_solve 33 = .ok (.iload_n 3, 1) := dk_29 (dk_at dksX0_solve_1 9 rfl rfl)
theorem dX0_solve_34 : decode cX0_solve 34 = .ok (.iconst 1, 1) := dk_4 (dk_at dksX0_solve_1 10 rfl rfl)
theorem dX0_solve_35 : decode cX0_solve 35 = .ok (.if_icmp .ne 11, 3) := dk_160 0 11 (dk_at dksX0_solve_1 11 rfl rfl)
theorem dX0_solve_38 : decode cX0_solve 38 = .ok (.aload_n 1, 1) := dk_43 (dk_at dksX0_solve_1 14 rfl rfl)
theorem dX0_solve_39 : decode cX0_solve 39 = .ok (.invokevirtual 121, 3) := dk_182 0 121 (dk_at dksX0_solve_1 15 rfl rfl)
theorem dX0_solve_42 : decode cX0_solve 42 = .ok (.istore_n 3, 1) := dk_62 (dk_at dksX0_solve_1 18 rfl rfl)
theorem dX0_solve_43 : decode cX0_solve 43 = .ok (.goto (-14), 3) := dk_167 255 242 (dk_at dksX0_solve_1 19 rfl rfl)
theorem dX0_solve_46 : decode cX0_solve 46 = .ok (.iload_n 3, 1) := dk_29 (dk_at dksX0_solve_1 22 rfl rfl)
theorem dX0_solve_47 : decode cX0_solve 47 = .ok (.bipush (-3), 2) := dk_16 253 (dk_at dksX0_solve_2 0 rfl rfl)
theorem dX0_solve_49 : decode cX0_solve 49 = .ok (.if_icmp .ne 8, 3) := dk_160 0 8 (dk_at dksX0_solve_2 2 rfl rfl)
theorem dX0_solve_52 : decode cX0_solve 52 = .ok (.bipush (-3), 2) := dk_16 253 (dk_at dksX0_solve_2 5 rfl rfl)
theorem dX0_solve_54 : decode cX0_solve 54 = .ok (.goto 19, 3) := dk_167 0 19 (dk_at dksX0_solve_2 7 rfl rfl)
theorem dX0_solve_57 : decode cX0_solve 57 = .ok (.aload_n 0, 1) := dk_42 (dk_at dksX0_solve_2 10 rfl rfl)
theorem dX0_solve_58 : decode cX0_solve 58 = .ok (.aload_n 1, 1) := dk_43 (dk_at dksX0_solve_2 11 rfl rfl)
theorem dX0_solve_59 : decode cX0_solve 59 = .ok (.aload_n 1, 1) := dk_43 (dk_at dksX0_solve_2 12 rfl rfl)
theorem dX0_solve_60 : decode cX0_solve 60 = .ok (.getfield 61, 3) := dk_180 0 61 (dk_at dksX0_solve_2 13 rfl rfl)
theorem dX0_solve_63 : decode cX0_solve 63 = .ok (.invokeinterface 30 1, 5) := by decide +kernel
theorem dX0_solve_68 : decode cX0_solve 68 = .ok (.iload_n 2, 1) := dk_28 (dk_at dksX0_solve_2 21 rfl rfl)
theorem dX0_solve_69 : decode cX0_solve 69 = .ok (.isub, 1) := dk_100 (dk_at dksX0_solve_2 22 rfl rfl)
theorem dX0_solve_70 : decode cX0_solve 70 = .ok (.invokevirtual 81, 3) := dk_182 0 81 (dk_at dksX0_solve_3 0 rfl rfl)
theorem dX0_solve_73 : decode cX0_solve 73 = .ok (.ireturn, 1) := dk_172 (dk_at dksX0_solve_3 3 rfl rfl)
abbrev cX0_readCut : ByteArray := prog_1_method_19_code
def yX0_readCut : MethodName := ⟨RX0, "readCut", "()I"⟩
def dkwX0_readCut_4 : List UInt8 := [185, 0, 40, 2, 0, 87, 42, 44, 44, 180, 0, 61, 185, 0, 30, 1, 0, 4, 100, 182, 0, 81, 172]
abbrev dktX0_readCut_4 : List UInt8 := dkwX0_readCut_4 ++ []
def dkwX0_readCut_3 : List UInt8 := [172, 42, 180, 0, 10, 182, 0, 67, 77, 44, 180, 0, 61, 187, 0, 138, 89, 43, 183, 0, 140]
abbrev dktX0_readCut_3 : List UInt8 := dkwX0_readCut_3 ++ dktX0_readCut_4
def dkwX0_readCut_2 : List UInt8 := [180, 0, 135, 100, 172, 42, 180, 0, 10, 180, 0, 61, 185, 0, 30, 1, 0, 16, 40, 160, 0, 6, 16, 253]
abbrev dktX0_readCut_2 : List UInt8 := dkwX0_readCut_2 ++ dktX0_readCut_3
def dkwX0_readCut_1 : List UInt8 := [183, 0, 126, 42, 180, 0, 10, 180, 0, 44, 180, 0, 58, 182, 0, 129, 76, 167, 0, 12, 77, 16, 156, 44]
abbrev dktX0_readCut_1 : List UInt8 := dkwX0_readCut_1 ++ dktX0_readCut_2
def dkwX0_readCut_0 : List UInt8 := [42, 180, 0, 10, 180, 0, 44, 180, 0, 58, 154, 0, 6, 16, 252, 172, 187, 0, 124, 89, 42, 180, 0, 26]
abbrev dktX0_readCut_0 : List UInt8 := dkwX0_readCut_0 ++ dktX0_readCut_1
theorem dksX0_readCut_0 : cX0_readCut.data.toList.drop 0 = dktX0_readCut_0 := by decide +kernel
theorem dksX0_readCut_1 : cX0_readCut.data.toList.drop 24 = dktX0_readCut_1 := dk_seg dksX0_readCut_0 24 rfl rfl
theorem dksX0_readCut_2 : cX0_readCut.data.toList.drop 48 = dktX0_readCut_2 := dk_seg dksX0_readCut_1 24 rfl rfl
theorem dksX0_readCut_3 : cX0_readCut.data.toList.drop 72 = dktX0_readCut_3 := dk_seg dksX0_readCut_2 24 rfl rfl
theorem dksX0_readCut_4 : cX0_readCut.data.toList.drop 93 = dktX0_readCut_4 := dk_seg dksX0_readCut_3 21 rfl rfl
theorem dX0_readCut_0 : decode cX0_readCut 0 = .ok (.aload_n 0, 1) := dk_42 (dk_at dksX0_readCut_0 0 rfl rfl)
theorem dX0_readCut_1 : decode cX0_readCut 1 = .ok (.getfield 10, 3) := dk_180 0 10 (dk_at dksX0_readCut_0 1 rfl rfl)
theorem dX0_readCut_4 : decode cX0_readCut 4 = .ok (.getfield 44, 3) := dk_180 0 44 (dk_at dksX0_readCut_0 4 rfl rfl)
theorem dX0_readCut_7 : decode cX0_readCut 7 = .ok (.getfield 58, 3) := dk_180 0 58 (dk_at dksX0_readCut_0 7 rfl rfl)
theorem dX0_readCut_10 : decode cX0_readCut 10 = .ok (.ifCond .ne 6, 3) := dk_154 0 6 (dk_at dksX0_readCut_0 10 rfl rfl)
theorem dX0_readCut_13 : decode cX0_readCut 13 = .ok (.bipush (-4), 2) := dk_16 252 (dk_at dksX0_readCut_0 13 rfl rfl)
theorem dX0_readCut_15 : decode cX0_readCut 15 = .ok (.ireturn, 1) := dk_172 (dk_at dksX0_readCut_0 15 rfl rfl)
theorem dX0_readCut_16 : decode cX0_readCut 16 = .ok (.new 124, 3) := dk_187 0 124 (dk_at dksX0_readCut_0 16 rfl rfl)
theorem dX0_readCut_19 : decode cX0_readCut 19 = .ok (.dup, 1) := dk_89 (dk_at dksX0_readCut_0 19 rfl rfl)
theorem dX0_readCut_20 : decode cX0_readCut 20 = .ok (.aload_n 0, 1) := dk_42 (dk_at dksX0_readCut_0 20 rfl rfl)
theorem dX0_readCut_21 : decode cX0_readCut 21 = .ok (.getfield 26, 3) := dk_180 0 26 (dk_at dksX0_readCut_0 21 rfl rfl)
theorem dX0_readCut_24 : decode cX0_readCut 24 = .ok (.invokespecial 126, 3) := dk_183 0 126 (dk_at dksX0_readCut_1 0 rfl rfl)
theorem dX0_readCut_27 : decode cX0_readCut 27 = .ok (.aload_n 0, 1) := dk_42 (dk_at dksX0_readCut_1 3 rfl rfl)
theorem dX0_readCut_28 : decode cX0_readCut 28 = .ok (.getfield 10, 3) := dk_180 0 10 (dk_at dksX0_readCut_1 4 rfl rfl)
theorem dX0_readCut_31 : decode cX0_readCut 31 = .ok (.getfield 44, 3) := dk_180 0 44 (dk_at dksX0_readCut_1 7 rfl rfl)
theorem dX0_readCut_34 : decode cX0_readCut 34 = .ok (.getfield 58, 3) := dk_180 0 58 (dk_at dksX0_readCut_1 10 rfl rfl)
theorem dX0_readCut_37 : decode cX0_readCut 37 = .ok (.invokevirtual 129, 3) := dk_182 0 129 (dk_at dksX0_readCut_1 13 rfl rfl)
theorem dX0_readCut_40 : decode cX0_readCut 40 = .ok (.astore_n 1, 1) := dk_76 (dk_at dksX0_readCut_1 16 rfl rfl)
theorem dX0_readCut_41 : decode cX0_readCut 41 = .ok (.goto 12, 3) := dk_167 0 12 (dk_at dksX0_readCut_1 17 rfl rfl)
theorem dX0_readCut_44 : decode cX0_readCut 44 = .ok (.astore_n 2, 1) := dk_77 (dk_at dksX0_readCut_1 20 rfl rfl)
theorem dX0_readCut_45 : decode cX0_readCut 45 = .ok (.bipush (-100), 2) := dk_16 156 (dk_at dksX0_readCut_1 21 rfl rfl)
theorem dX0_readCut_47 : decode cX0_readCut 47 = .ok (.aload_n 2, 1) := dk_44 (dk_at dksX0_readCut_1 23 rfl rfl)
theorem dX0_readCut_48 : decode cX0_readCut 48 = .ok (.getfield 135, 3) := dk_180 0 135 (dk_at dksX0_readCut_2 0 rfl rfl)
theorem dX0_readCut_51 : decode cX0_readCut 51 = .ok (.isub, 1) := dk_100 (dk_at dksX0_readCut_2 3 rfl rfl)
theorem dX0_readCut_52 : decode cX0_readCut 52 = .ok (.ireturn, 1) := dk_172 (dk_at dksX0_readCut_2 4 rfl rfl)
theorem dX0_readCut_53 : decode cX0_readCut 53 = .ok (.aload_n 0, 1) := dk_42 (dk_at dksX0_readCut_2 5 rfl rfl)
theorem dX0_readCut_54 : decode cX0_readCut 54 = .ok (.getfield 10, 3) := dk_180 0 10 (dk_at dksX0_readCut_2 6 rfl rfl)
theorem dX0_readCut_57 : decode cX0_readCut 57 = .ok (.getfield 61, 3) := dk_180 0 61 (dk_at dksX0_readCut_2 9 rfl rfl)
theorem dX0_readCut_60 : decode cX0_readCut 60 = .ok (.invokeinterface 30 1, 5) := by decide +kernel
theorem dX0_readCut_65 : decode cX0_readCut 65 = .ok (.bipush 40, 2) := dk_16 40 (dk_at dksX0_readCut_2 17 rfl rfl)
theorem dX0_readCut_67 : decode cX0_readCut 67 = .ok (.if_icmp .ne 6, 3) := dk_160 0 6 (dk_at dksX0_readCut_2 19 rfl rfl)
theorem dX0_readCut_70 : decode cX0_readCut 70 = .ok (.bipush (-3), 2) := dk_16 253 (dk_at dksX0_readCut_2 22 rfl rfl)
theorem dX0_readCut_72 : decode cX0_readCut 72 = .ok (.ireturn, 1) := dk_172 (dk_at dksX0_readCut_3 0 rfl rfl)
theorem dX0_readCut_73 : decode cX0_readCut 73 = .ok (.aload_n 0, 1) := dk_42 (dk_at dksX0_readCut_3 1 rfl rfl)
theorem dX0_readCut_74 : decode cX0_readCut 74 = .ok (.getfield 10, 3) := dk_180 0 10 (dk_at dksX0_readCut_3 2 rfl rfl)
theorem dX0_readCut_77 : decode cX0_readCut 77 = .ok (.invokevirtual 67, 3) := dk_182 0 67 (dk_at dksX0_readCut_3 5 rfl rfl)
theorem dX0_readCut_80 : decode cX0_readCut 80 = .ok (.astore_n 2, 1) := dk_77 (dk_at dksX0_readCut_3 8 rfl rfl)
theorem dX0_readCut_81 : decode cX0_readCut 81 = .ok (.aload_n 2, 1) := dk_44 (dk_at dksX0_readCut_3 9 rfl rfl)
theorem dX0_readCut_82 : decode cX0_readCut 82 = .ok (.getfield 61, 3) := dk_180 0 61 (dk_at dksX0_readCut_3 10 rfl rfl)
theorem dX0_readCut_85 : decode cX0_readCut 85 = .ok (.new 138, 3) := dk_187 0 138 (dk_at dksX0_readCut_3 13 rfl rfl)
theorem dX0_readCut_88 : decode cX0_readCut 88 = .ok (.dup, 1) := dk_89 (dk_at dksX0_readCut_3 16 rfl rfl)
theorem dX0_readCut_89 : decode cX0_readCut 89 = .ok (.aload_n 1, 1) := dk_43 (dk_at dksX0_readCut_3 17 rfl rfl)
theorem dX0_readCut_90 : decode cX0_readCut 90 = .ok (.invokespecial 140, 3) := dk_183 0 140 (dk_at dksX0_readCut_3 18 rfl rfl)
theorem dX0_readCut_93 : decode cX0_readCut 93 = .ok (.invokeinterface 40 2, 5) := by decide +kernel
theorem dX0_readCut_98 : decode cX0_readCut 98 = .ok (.pop, 1) := dk_87 (dk_at dksX0_readCut_4 5 rfl rfl)
theorem dX0_readCut_99 : decode cX0_readCut 99 = .ok (.aload_n 0, 1) := dk_42 (dk_at dksX0_readCut_4 6 rfl rfl)
theorem dX0_readCut_100 : decode cX0_readCut 100 = .ok (.aload_n 2, 1) := dk_44 (dk_at dksX0_readCut_4 7 rfl rfl)
theorem dX0_readCut_101 : decode cX0_readCut 101 = .ok (.aload_n 2, 1) := dk_44 (dk_at dksX0_readCut_4 8 rfl rfl)
theorem dX0_readCut_102 : decode cX0_readCut 102 = .ok (.getfield 61, 3) := dk_180 0 61 (dk_at dksX0_readCut_4 9 rfl rfl)
theorem dX0_readCut_105 : decode cX0_readCut 105 = .ok (.invokeinterface 30 1, 5) := by decide +kernel
theorem dX0_readCut_110 : decode cX0_readCut 110 = .ok (.iconst 1, 1) := dk_4 (dk_at dksX0_readCut_4 17 rfl rfl)
theorem dX0_readCut_111 : decode cX0_readCut 111 = .ok (.isub, 1) := dk_100 (dk_at dksX0_readCut_4 18 rfl rfl)
theorem dX0_readCut_112 : decode cX0_readCut 112 = .ok (.invokevirtual 81, 3) := dk_182 0 81 (dk_at dksX0_readCut_4 19 rfl rfl)
theorem dX0_readCut_115 : decode cX0_readCut 115 = .ok (.ireturn, 1) := dk_172 (dk_at dksX0_readCut_4 22 rfl rfl)
abbrev cX0_drop : ByteArray := prog_1_method_20_code
def yX0_drop : MethodName := ⟨RX0, "drop", "(I)I"⟩
def dkwX0_drop_1 : List UInt8 := [185, 0, 36, 2, 0, 87, 42, 44, 44, 180, 0, 61, 185, 0, 30, 1, 0, 182, 0, 81, 172]
abbrev dktX0_drop_1 : List UInt8 := dkwX0_drop_1 ++ []
def dkwX0_drop_0 : List UInt8 := [42, 27, 182, 0, 143, 154, 0, 5, 2, 172, 42, 180, 0, 10, 182, 0, 67, 77, 44, 180, 0, 61, 27]
abbrev dktX0_drop_0 : List UInt8 := dkwX0_drop_0 ++ dktX0_drop_1
theorem dksX0_drop_0 : cX0_drop.data.toList.drop 0 = dktX0_drop_0 := by decide +kernel
theorem dksX0_drop_1 : cX0_drop.data.toList.drop 23 = dktX0_drop_1 := dk_seg dksX0_drop_0 23 rfl rfl
theorem dX0_drop_0 : decode cX0_drop 0 = .ok (.aload_n 0, 1) := dk_42 (dk_at dksX0_drop_0 0 rfl rfl)
theorem dX0_drop_1 : decode cX0_drop 1 = .ok (.iload_n 1, 1) := dk_27 (dk_at dksX0_drop_0 1 rfl rfl)
theorem dX0_drop_2 : decode cX0_drop 2 = .ok (.invokevirtual 143, 3) := dk_182 0 143 (dk_at dksX0_drop_0 2 rfl rfl)
theorem dX0_drop_5 : decode cX0_drop 5 = .ok (.ifCond .ne 5, 3) := dk_154 0 5 (dk_at dksX0_drop_0 5 rfl rfl)
theorem dX0_drop_8 : decode cX0_drop 8 = .ok (.iconst (-1), 1) := dk_2 (dk_at dksX0_drop_0 8 rfl rfl)
theorem dX0_drop_9 : decode cX0_drop 9 = .ok (.ireturn, 1) := dk_172 (dk_at dksX0_drop_0 9 rfl rfl)
theorem dX0_drop_10 : decode cX0_drop 10 = .ok (.aload_n 0, 1) := dk_42 (dk_at dksX0_drop_0 10 rfl rfl)
theorem dX0_drop_11 : decode cX0_drop 11 = .ok (.getfield 10, 3) := dk_180 0 10 (dk_at dksX0_drop_0 11 rfl rfl)
theorem dX0_drop_14 : decode cX0_drop 14 = .ok (.invokevirtual 67, 3) := dk_182 0 67 (dk_at dksX0_drop_0 14 rfl rfl)
theorem dX0_drop_17 : decode cX0_drop 17 = .ok (.astore_n 2, 1) := dk_77 (dk_at dksX0_drop_0 17 rfl rfl)
theorem dX0_drop_18 : decode cX0_drop 18 = .ok (.aload_n 2, 1) := dk_44 (dk_at dksX0_drop_0 18 rfl rfl)
theorem dX0_drop_19 : decode cX0_drop 19 = .ok (.getfield 61, 3) := dk_180 0 61 (dk_at dksX0_drop_0 19 rfl rfl)
theorem dX0_drop_22 : decode cX0_drop 22 = .ok (.iload_n 1, 1) := dk_27 (dk_at dksX0_drop_0 22 rfl rfl)
theorem dX0_drop_23 : decode cX0_drop 23 = .ok (.invokeinterface 36 2, 5) := by decide +kernel
theorem dX0_drop_28 : decode cX0_drop 28 = .ok (.pop, 1) := dk_87 (dk_at dksX0_drop_1 5 rfl rfl)
theorem dX0_drop_29 : decode cX0_drop 29 = .ok (.aload_n 0, 1) := dk_42 (dk_at dksX0_drop_1 6 rfl rfl)
theorem dX0_drop_30 : decode cX0_drop 30 = .ok (.aload_n 2, 1) := dk_44 (dk_at dksX0_drop_1 7 rfl rfl)
theorem dX0_drop_31 : decode cX0_drop 31 = .ok (.aload_n 2, 1) := dk_44 (dk_at dksX0_drop_1 8 rfl rfl)
theorem dX0_drop_32 : decode cX0_drop 32 = .ok (.getfield 61, 3) := dk_180 0 61 (dk_at dksX0_drop_1 9 rfl rfl)
theorem dX0_drop_35 : decode cX0_drop 35 = .ok (.invokeinterface 30 1, 5) := by decide +kernel
theorem dX0_drop_40 : decode cX0_drop 40 = .ok (.invokevirtual 81, 3) := dk_182 0 81 (dk_at dksX0_drop_1 17 rfl rfl)
theorem dX0_drop_43 : decode cX0_drop 43 = .ok (.ireturn, 1) := dk_172 (dk_at dksX0_drop_1 20 rfl rfl)
abbrev cX0_isCut : ByteArray := prog_1_method_7_code
def yX0_isCut : MethodName := ⟨RX0, "isCut", "(I)Z"⟩
def dkwX0_isCut_0 : List UInt8 := [27, 3, 42, 180, 0, 10, 180, 0, 61, 185, 0, 30, 1, 0, 4, 100, 184, 0, 54, 172]
abbrev dktX0_isCut_0 : List UInt8 := dkwX0_isCut_0 ++ []
theorem dksX0_isCut_0 : cX0_isCut.data.toList.drop 0 = dktX0_isCut_0 := by decide +kernel
theorem dX0_isCut_0 : decode cX0_isCut 0 = .ok (.iload_n 1, 1) := dk_27 (dk_at dksX0_isCut_0 0 rfl rfl)
theorem dX0_isCut_1 : decode cX0_isCut 1 = .ok (.iconst 0, 1) := dk_3 (dk_at dksX0_isCut_0 1 rfl rfl)
theorem dX0_isCut_2 : decode cX0_isCut 2 = .ok (.aload_n 0, 1) := dk_42 (dk_at dksX0_isCut_0 2 rfl rfl)
theorem dX0_isCut_3 : decode cX0_isCut 3 = .ok (.getfield 10, 3) := dk_180 0 10 (dk_at dksX0_isCut_0 3 rfl rfl)
theorem dX0_isCut_6 : decode cX0_isCut 6 = .ok (.getfield 61, 3) := dk_180 0 61 (dk_at dksX0_isCut_0 6 rfl rfl)
theorem dX0_isCut_9 : decode cX0_isCut 9 = .ok (.invokeinterface 30 1, 5) := by decide +kernel
theorem dX0_isCut_14 : decode cX0_isCut 14 = .ok (.iconst 1, 1) := dk_4 (dk_at dksX0_isCut_0 14 rfl rfl)
theorem dX0_isCut_15 : decode cX0_isCut 15 = .ok (.isub, 1) := dk_100 (dk_at dksX0_isCut_0 15 rfl rfl)
theorem dX0_isCut_16 : decode cX0_isCut 16 = .ok (.invokestatic 54, 3) := dk_184 0 54 (dk_at dksX0_isCut_0 16 rfl rfl)
theorem dX0_isCut_19 : decode cX0_isCut 19 = .ok (.ireturn, 1) := dk_172 (dk_at dksX0_isCut_0 19 rfl rfl)
abbrev cX0_dropLoose : ByteArray := prog_1_method_21_code
def yX0_dropLoose : MethodName := ⟨RX0, "dropLoose", "()I"⟩
def dkwX0_dropLoose_1 : List UInt8 := [77, 44, 27, 182, 0, 149, 62, 29, 154, 0, 8, 16, 251, 167, 0, 9, 42, 44, 29, 182, 0, 81, 172]
abbrev dktX0_dropLoose_1 : List UInt8 := dkwX0_dropLoose_1 ++ []
def dkwX0_dropLoose_0 : List UInt8 := [42, 180, 0, 10, 182, 0, 146, 60, 27, 16, 251, 160, 0, 6, 16, 252, 172, 42, 180, 0, 10, 182, 0, 67]
abbrev dktX0_dropLoose_0 : List UInt8 := dkwX0_dropLoose_0 ++ dktX0_dropLoose_1
theorem dksX0_dropLoose_0 : cX0_dropLoose.data.toList.drop 0 = dktX0_dropLoose_0 := by decide +kernel
theorem dksX0_dropLoose_1 : cX0_dropLoose.data.toList.drop 24 = dktX0_dropLoose_1 := dk_seg dksX0_dropLoose_0 24 rfl rfl
theorem dX0_dropLoose_0 : decode cX0_dropLoose 0 = .ok (.aload_n 0, 1) := dk_42 (dk_at dksX0_dropLoose_0 0 rfl rfl)
theorem dX0_dropLoose_1 : decode cX0_dropLoose 1 = .ok (.getfield 10, 3) := dk_180 0 10 (dk_at dksX0_dropLoose_0 1 rfl rfl)
theorem dX0_dropLoose_4 : decode cX0_dropLoose 4 = .ok (.invokevirtual 146, 3) := dk_182 0 146 (dk_at dksX0_dropLoose_0 4 rfl rfl)
theorem dX0_dropLoose_7 : decode cX0_dropLoose 7 = .ok (.istore_n 1, 1) := dk_60 (dk_at dksX0_dropLoose_0 7 rfl rfl)
theorem dX0_dropLoose_8 : decode cX0_dropLoose 8 = .ok (.iload_n 1, 1) := dk_27 (dk_at dksX0_dropLoose_0 8 rfl rfl)
theorem dX0_dropLoose_9 : decode cX0_dropLoose 9 = .ok (.bipush (-5), 2) := dk_16 251 (dk_at dksX0_dropLoose_0 9 rfl rfl)
theorem dX0_dropLoose_11 : decode cX0_dropLoose 11 = .ok (.if_icmp .ne 6, 3) := dk_160 0 6 (dk_at dksX0_dropLoose_0 11 rfl rfl)
theorem dX0_dropLoose_14 : decode cX0_dropLoose 14 = .ok (.bipush (-4), 2) := dk_16 252 (dk_at dksX0_dropLoose_0 14 rfl rfl)
theorem dX0_dropLoose_16 : decode cX0_dropLoose 16 = .ok (.ireturn, 1) := dk_172 (dk_at dksX0_dropLoose_0 16 rfl rfl)
theorem dX0_dropLoose_17 : decode cX0_dropLoose 17 = .ok (.aload_n 0, 1) := dk_42 (dk_at dksX0_dropLoose_0 17 rfl rfl)
theorem dX0_dropLoose_18 : decode cX0_dropLoose 18 = .ok (.getfield 10, 3) := dk_180 0 10 (dk_at dksX0_dropLoose_0 18 rfl rfl)
theorem dX0_dropLoose_21 : decode cX0_dropLoose 21 = .ok (.invokevirtual 67, 3) := dk_182 0 67 (dk_at dksX0_dropLoose_0 21 rfl rfl)
theorem dX0_dropLoose_24 : decode cX0_dropLoose 24 = .ok (.astore_n 2, 1) := dk_77 (dk_at dksX0_dropLoose_1 0 rfl rfl)
theorem dX0_dropLoose_25 : decode cX0_dropLoose 25 = .ok (.aload_n 2, 1) := dk_44 (dk_at dksX0_dropLoose_1 1 rfl rfl)
theorem dX0_dropLoose_26 : decode cX0_dropLoose 26 = .ok (.iload_n 1, 1) := dk_27 (dk_at dksX0_dropLoose_1 2 rfl rfl)
theorem dX0_dropLoose_27 : decode cX0_dropLoose 27 = .ok (.invokevirtual 149, 3) := dk_182 0 149 (dk_at dksX0_dropLoose_1 3 rfl rfl)
theorem dX0_dropLoose_30 : decode cX0_dropLoose 30 = .ok (.istore_n 3, 1) := dk_62 (dk_at dksX0_dropLoose_1 6 rfl rfl)
theorem dX0_dropLoose_31 : decode cX0_dropLoose 31 = .ok (.iload_n 3, 1) := dk_29 (dk_at dksX0_dropLoose_1 7 rfl rfl)
theorem dX0_dropLoose_32 : decode cX0_dropLoose 32 = .ok (.ifCond .ne 8, 3) := dk_154 0 8 (dk_at dksX0_dropLoose_1 8 rfl rfl)
theorem dX0_dropLoose_35 : decode cX0_dropLoose 35 = .ok (.bipush (-5), 2) := dk_16 251 (dk_at dksX0_dropLoose_1 11 rfl rfl)
theorem dX0_dropLoose_37 : decode cX0_dropLoose 37 = .ok (.goto 9, 3) := dk_167 0 9 (dk_at dksX0_dropLoose_1 13 rfl rfl)
theorem dX0_dropLoose_40 : decode cX0_dropLoose 40 = .ok (.aload_n 0, 1) := dk_42 (dk_at dksX0_dropLoose_1 16 rfl rfl)
theorem dX0_dropLoose_41 : decode cX0_dropLoose 41 = .ok (.aload_n 2, 1) := dk_44 (dk_at dksX0_dropLoose_1 17 rfl rfl)
theorem dX0_dropLoose_42 : decode cX0_dropLoose 42 = .ok (.iload_n 3, 1) := dk_29 (dk_at dksX0_dropLoose_1 18 rfl rfl)
theorem dX0_dropLoose_43 : decode cX0_dropLoose 43 = .ok (.invokevirtual 81, 3) := dk_182 0 81 (dk_at dksX0_dropLoose_1 19 rfl rfl)
theorem dX0_dropLoose_46 : decode cX0_dropLoose 46 = .ok (.ireturn, 1) := dk_172 (dk_at dksX0_dropLoose_1 22 rfl rfl)
abbrev cX0_type : ByteArray := prog_1_method_22_code
def yX0_type : MethodName := ⟨RX0, "type", "(C)I"⟩
def dkwX0_type_1 : List UInt8 := [42, 180, 0, 26, 182, 0, 152, 172]
abbrev dktX0_type_1 : List UInt8 := dkwX0_type_1 ++ []
def dkwX0_type_0 : List UInt8 := [42, 180, 0, 26, 182, 0, 152, 16, 60, 160, 0, 6, 16, 253, 172, 42, 180, 0, 26, 27, 182, 0, 155, 87]
abbrev dktX0_type_0 : List UInt8 := dkwX0_type_0 ++ dktX0_type_1
theorem dksX0_type_0 : cX0_type.data.toList.drop 0 = dktX0_type_0 := by decide +kernel
theorem dksX0_type_1 : cX0_type.data.toList.drop 24 = dktX0_type_1 := dk_seg dksX0_type_0 24 rfl rfl
theorem dX0_type_0 : decode cX0_type 0 = .ok (.aload_n 0, 1) := dk_42 (dk_at dksX0_type_0 0 rfl rfl)
theorem dX0_type_1 : decode cX0_type 1 = .ok (.getfield 26, 3) := dk_180 0 26 (dk_at dksX0_type_0 1 rfl rfl)
theorem dX0_type_4 : decode cX0_type 4 = .ok (.invokevirtual 152, 3) := dk_182 0 152 (dk_at dksX0_type_0 4 rfl rfl)
theorem dX0_type_7 : decode cX0_type 7 = .ok (.bipush 60, 2) := dk_16 60 (dk_at dksX0_type_0 7 rfl rfl)
theorem dX0_type_9 : decode cX0_type 9 = .ok (.if_icmp .ne 6, 3) := dk_160 0 6 (dk_at dksX0_type_0 9 rfl rfl)
theorem dX0_type_12 : decode cX0_type 12 = .ok (.bipush (-3), 2) := dk_16 253 (dk_at dksX0_type_0 12 rfl rfl)
theorem dX0_type_14 : decode cX0_type 14 = .ok (.ireturn, 1) := dk_172 (dk_at dksX0_type_0 14 rfl rfl)
theorem dX0_type_15 : decode cX0_type 15 = .ok (.aload_n 0, 1) := dk_42 (dk_at dksX0_type_0 15 rfl rfl)
theorem dX0_type_16 : decode cX0_type 16 = .ok (.getfield 26, 3) := dk_180 0 26 (dk_at dksX0_type_0 16 rfl rfl)
theorem dX0_type_19 : decode cX0_type 19 = .ok (.iload_n 1, 1) := dk_27 (dk_at dksX0_type_0 19 rfl rfl)
theorem dX0_type_20 : decode cX0_type 20 = .ok (.invokevirtual 155, 3) := dk_182 0 155 (dk_at dksX0_type_0 20 rfl rfl)
theorem dX0_type_23 : decode cX0_type 23 = .ok (.pop, 1) := dk_87 (dk_at dksX0_type_0 23 rfl rfl)
theorem dX0_type_24 : decode cX0_type 24 = .ok (.aload_n 0, 1) := dk_42 (dk_at dksX0_type_1 0 rfl rfl)
theorem dX0_type_25 : decode cX0_type 25 = .ok (.getfield 26, 3) := dk_180 0 26 (dk_at dksX0_type_1 1 rfl rfl)
theorem dX0_type_28 : decode cX0_type 28 = .ok (.invokevirtual 152, 3) := dk_182 0 152 (dk_at dksX0_type_1 4 rfl rfl)
theorem dX0_type_31 : decode cX0_type 31 = .ok (.ireturn, 1) := dk_172 (dk_at dksX0_type_1 7 rfl rfl)
abbrev cX0_clearText : ByteArray := prog_1_method_23_code
def yX0_clearText : MethodName := ⟨RX0, "clearText", "()I"⟩
def dkwX0_clearText_0 : List UInt8 := [42, 180, 0, 26, 182, 0, 152, 60, 42, 180, 0, 26, 3, 182, 0, 159, 27, 172]
abbrev dktX0_clearText_0 : List UInt8 := dkwX0_clearText_0 ++ []
theorem dksX0_clearText_0 : cX0_clearText.data.toList.drop 0 = dktX0_clearText_0 := by decide +kernel
theorem dX0_clearText_0 : decode cX0_clearText 0 = .ok (.aload_n 0, 1) := dk_42 (dk_at dksX0_clearText_0 0 rfl rfl)
theorem dX0_clearText_1 : decode cX0_clearText 1 = .ok (.getfield 26, 3) := dk_180 0 26 (dk_at dksX0_clearText_0 1 rfl rfl)
theorem dX0_clearText_4 : decode cX0_clearText 4 = .ok (.invokevirtual 152, 3) := dk_182 0 152 (dk_at dksX0_clearText_0 4 rfl rfl)
theorem dX0_clearText_7 : decode cX0_clearText 7 = .ok (.istore_n 1, 1) := dk_60 (dk_at dksX0_clearText_0 7 rfl rfl)
theorem dX0_clearText_8 : decode cX0_clearText 8 = .ok (.aload_n 0, 1) := dk_42 (dk_at dksX0_clearText_0 8 rfl rfl)
theorem dX0_clearText_9 : decode cX0_clearText 9 = .ok (.getfield 26, 3) := dk_180 0 26 (dk_at dksX0_clearText_0 9 rfl rfl)
theorem dX0_clearText_12 : decode cX0_clearText 12 = .ok (.iconst 0, 1) := dk_3 (dk_at dksX0_clearText_0 12 rfl rfl)
theorem dX0_clearText_13 : decode cX0_clearText 13 = .ok (.invokevirtual 159, 3) := dk_182 0 159 (dk_at dksX0_clearText_0 13 rfl rfl)
theorem dX0_clearText_16 : decode cX0_clearText 16 = .ok (.iload_n 1, 1) := dk_27 (dk_at dksX0_clearText_0 16 rfl rfl)
theorem dX0_clearText_17 : decode cX0_clearText 17 = .ok (.ireturn, 1) := dk_172 (dk_at dksX0_clearText_0 17 rfl rfl)
abbrev cX0_undo : ByteArray := prog_1_method_24_code
def yX0_undo : MethodName := ⟨RX0, "undo", "()I"⟩
def dkwX0_undo_2 : List UInt8 := [185, 0, 30, 1, 0, 172]
abbrev dktX0_undo_2 : List UInt8 := dkwX0_undo_2 ++ []
def dkwX0_undo_1 : List UInt8 := [185, 0, 30, 1, 0, 4, 100, 185, 0, 36, 2, 0, 192, 0, 7, 181, 0, 10, 42, 180, 0, 19]
abbrev dktX0_undo_1 : List UInt8 := dkwX0_undo_1 ++ dktX0_undo_2
def dkwX0_undo_0 : List UInt8 := [42, 180, 0, 19, 185, 0, 163, 1, 0, 153, 0, 6, 16, 251, 172, 42, 42, 180, 0, 19, 42, 180, 0, 19]
abbrev dktX0_undo_0 : List UInt8 := dkwX0_undo_0 ++ dktX0_undo_1
theorem dksX0_undo_0 : cX0_undo.data.toList.drop 0 = dktX0_undo_0 := by decide +kernel
theorem dksX0_undo_1 : cX0_undo.data.toList.drop 24 = dktX0_undo_1 := dk_seg dksX0_undo_0 24 rfl rfl
theorem dksX0_undo_2 : cX0_undo.data.toList.drop 46 = dktX0_undo_2 := dk_seg dksX0_undo_1 22 rfl rfl
theorem dX0_undo_0 : decode cX0_undo 0 = .ok (.aload_n 0, 1) := dk_42 (dk_at dksX0_undo_0 0 rfl rfl)
theorem dX0_undo_1 : decode cX0_undo 1 = .ok (.getfield 19, 3) := dk_180 0 19 (dk_at dksX0_undo_0 1 rfl rfl)
theorem dX0_undo_4 : decode cX0_undo 4 = .ok (.invokeinterface 163 1, 5) := by decide +kernel
theorem dX0_undo_9 : decode cX0_undo 9 = .ok (.ifCond .eq 6, 3) := dk_153 0 6 (dk_at dksX0_undo_0 9 rfl rfl)
theorem dX0_undo_12 : decode cX0_undo 12 = .ok (.bipush (-5), 2) := dk_16 251 (dk_at dksX0_undo_0 12 rfl rfl)
theorem dX0_undo_14 : decode cX0_undo 14 = .ok (.ireturn, 1) := dk_172 (dk_at dksX0_undo_0 14 rfl rfl)
theorem dX0_undo_15 : decode cX0_undo 15 = .ok (.aload_n 0, 1) := dk_42 (dk_at dksX0_undo_0 15 rfl rfl)
theorem dX0_undo_16 : decode cX0_undo 16 = .ok (.aload_n 0, 1) := dk_42 (dk_at dksX0_undo_0 16 rfl rfl)
theorem dX0_undo_17 : decode cX0_undo 17 = .ok (.getfield 19, 3) := dk_180 0 19 (dk_at dksX0_undo_0 17 rfl rfl)
theorem dX0_undo_20 : decode cX0_undo 20 = .ok (.aload_n 0, 1) := dk_42 (dk_at dksX0_undo_0 20 rfl rfl)
theorem dX0_undo_21 : decode cX0_undo 21 = .ok (.getfield 19, 3) := dk_180 0 19 (dk_at dksX0_undo_0 21 rfl rfl)
theorem dX0_undo_24 : decode cX0_undo 24 = .ok (.invokeinterface 30 1, 5) := by decide +kernel
theorem dX0_undo_29 : decode cX0_undo 29 = .ok (.iconst 1, 1) := dk_4 (dk_at dksX0_undo_1 5 rfl rfl)
theorem dX0_undo_30 : decode cX0_undo 30 = .ok (.isub, 1) := dk_100 (dk_at dksX0_undo_1 6 rfl rfl)
theorem dX0_undo_31 : decode cX0_undo 31 = .ok (.invokeinterface 36 2, 5) := by decide +kernel
theorem dX0_undo_36 : decode cX0_undo 36 = .ok (.checkcast 7, 3) := dk_192 0 7 (dk_at dksX0_undo_1 12 rfl rfl)
theorem dX0_undo_39 : decode cX0_undo 39 = .ok (.putfield 10, 3) := dk_181 0 10 (dk_at dksX0_undo_1 15 rfl rfl)
theorem dX0_undo_42 : decode cX0_undo 42 = .ok (.aload_n 0, 1) := dk_42 (dk_at dksX0_undo_1 18 rfl rfl)
theorem dX0_undo_43 : decode cX0_undo 43 = .ok (.getfield 19, 3) := dk_180 0 19 (dk_at dksX0_undo_1 19 rfl rfl)
theorem dX0_undo_46 : decode cX0_undo 46 = .ok (.invokeinterface 30 1, 5) := by decide +kernel
theorem dX0_undo_51 : decode cX0_undo 51 = .ok (.ireturn, 1) := dk_172 (dk_at dksX0_undo_2 5 rfl rfl)
abbrev cX0_keep : ByteArray := prog_1_method_25_code
def yX0_keep : MethodName := ⟨RX0, "keep", "()I"⟩
def dkwX0_keep_0 : List UInt8 := [42, 42, 180, 0, 10, 182, 0, 67, 181, 0, 167, 42, 180, 0, 10, 180, 0, 61, 185, 0, 30, 1, 0, 172]
abbrev dktX0_keep_0 : List UInt8 := dkwX0_keep_0 ++ []
theorem dksX0_keep_0 : cX0_keep.data.toList.drop 0 = dktX0_keep_0 := by decide +kernel
theorem dX0_keep_0 : decode cX0_keep 0 = .ok (.aload_n 0, 1) := dk_42 (dk_at dksX0_keep_0 0 rfl rfl)
theorem dX0_keep_1 : decode cX0_keep 1 = .ok (.aload_n 0, 1) := dk_42 (dk_at dksX0_keep_0 1 rfl rfl)
theorem dX0_keep_2 : decode cX0_keep 2 = .ok (.getfield 10, 3) := dk_180 0 10 (dk_at dksX0_keep_0 2 rfl rfl)
theorem dX0_keep_5 : decode cX0_keep 5 = .ok (.invokevirtual 67, 3) := dk_182 0 67 (dk_at dksX0_keep_0 5 rfl rfl)
theorem dX0_keep_8 : decode cX0_keep 8 = .ok (.putfield 167, 3) := dk_181 0 167 (dk_at dksX0_keep_0 8 rfl rfl)
theorem dX0_keep_11 : decode cX0_keep 11 = .ok (.aload_n 0, 1) := dk_42 (dk_at dksX0_keep_0 11 rfl rfl)
theorem dX0_keep_12 : decode cX0_keep 12 = .ok (.getfield 10, 3) := dk_180 0 10 (dk_at dksX0_keep_0 12 rfl rfl)
theorem dX0_keep_15 : decode cX0_keep 15 = .ok (.getfield 61, 3) := dk_180 0 61 (dk_at dksX0_keep_0 15 rfl rfl)
theorem dX0_keep_18 : decode cX0_keep 18 = .ok (.invokeinterface 30 1, 5) := by decide +kernel
theorem dX0_keep_23 : decode cX0_keep 23 = .ok (.ireturn, 1) := dk_172 (dk_at dksX0_keep_0 23 rfl rfl)
abbrev cX0_restore : ByteArray := prog_1_method_26_code
def yX0_restore : MethodName := ⟨RX0, "restore", "()I"⟩
def dkwX0_restore_1 : List UInt8 := [180, 0, 61, 185, 0, 30, 1, 0, 182, 0, 81, 172]
abbrev dktX0_restore_1 : List UInt8 := dkwX0_restore_1 ++ []
def dkwX0_restore_0 : List UInt8 := [42, 180, 0, 167, 199, 0, 8, 16, 251, 167, 0, 26, 42, 42, 180, 0, 167, 182, 0, 67, 42, 180, 0, 167]
abbrev dktX0_restore_0 : List UInt8 := dkwX0_restore_0 ++ dktX0_restore_1
theorem dksX0_restore_0 : cX0_restore.data.toList.drop 0 = dktX0_restore_0 := by decide +kernel
theorem dksX0_restore_1 : cX0_restore.data.toList.drop 24 = dktX0_restore_1 := dk_seg dksX0_restore_0 24 rfl rfl
theorem dX0_restore_0 : decode cX0_restore 0 = .ok (.aload_n 0, 1) := dk_42 (dk_at dksX0_restore_0 0 rfl rfl)
theorem dX0_restore_1 : decode cX0_restore 1 = .ok (.getfield 167, 3) := dk_180 0 167 (dk_at dksX0_restore_0 1 rfl rfl)
theorem dX0_restore_4 : decode cX0_restore 4 = .ok (.ifnonnull 8, 3) := dk_199 0 8 (dk_at dksX0_restore_0 4 rfl rfl)
theorem dX0_restore_7 : decode cX0_restore 7 = .ok (.bipush (-5), 2) := dk_16 251 (dk_at dksX0_restore_0 7 rfl rfl)
theorem dX0_restore_9 : decode cX0_restore 9 = .ok (.goto 26, 3) := dk_167 0 26 (dk_at dksX0_restore_0 9 rfl rfl)
theorem dX0_restore_12 : decode cX0_restore 12 = .ok (.aload_n 0, 1) := dk_42 (dk_at dksX0_restore_0 12 rfl rfl)
theorem dX0_restore_13 : decode cX0_restore 13 = .ok (.aload_n 0, 1) := dk_42 (dk_at dksX0_restore_0 13 rfl rfl)
theorem dX0_restore_14 : decode cX0_restore 14 = .ok (.getfield 167, 3) := dk_180 0 167 (dk_at dksX0_restore_0 14 rfl rfl)
theorem dX0_restore_17 : decode cX0_restore 17 = .ok (.invokevirtual 67, 3) := dk_182 0 67 (dk_at dksX0_restore_0 17 rfl rfl)
theorem dX0_restore_20 : decode cX0_restore 20 = .ok (.aload_n 0, 1) := dk_42 (dk_at dksX0_restore_0 20 rfl rfl)
theorem dX0_restore_21 : decode cX0_restore 21 = .ok (.getfield 167, 3) := dk_180 0 167 (dk_at dksX0_restore_0 21 rfl rfl)
theorem dX0_restore_24 : decode cX0_restore 24 = .ok (.getfield 61, 3) := dk_180 0 61 (dk_at dksX0_restore_1 0 rfl rfl)
theorem dX0_restore_27 : decode cX0_restore 27 = .ok (.invokeinterface 30 1, 5) := by decide +kernel
theorem dX0_restore_32 : decode cX0_restore 32 = .ok (.invokevirtual 81, 3) := dk_182 0 81 (dk_at dksX0_restore_1 8 rfl rfl)
theorem dX0_restore_35 : decode cX0_restore 35 = .ok (.ireturn, 1) := dk_172 (dk_at dksX0_restore_1 11 rfl rfl)
abbrev cX0_judge : ByteArray := prog_1_method_27_code
def yX0_judge : MethodName := ⟨RX0, "judge", "(I)I"⟩
def dkwX0_judge_1 : List UInt8 := [167, 0, 5, 16, 254, 172]
abbrev dktX0_judge_1 : List UInt8 := dkwX0_judge_1 ++ []
def dkwX0_judge_0 : List UInt8 := [42, 27, 182, 0, 170, 153, 0, 20, 42, 180, 0, 10, 180, 0, 44, 27, 182, 0, 173, 182, 0, 177]
abbrev dktX0_judge_0 : List UInt8 := dkwX0_judge_0 ++ dktX0_judge_1
theorem dksX0_judge_0 : cX0_judge.data.toList.drop 0 = dktX0_judge_0 := by decide +kernel
theorem dksX0_judge_1 : cX0_judge.data.toList.drop 22 = dktX0_judge_1 := dk_seg dksX0_judge_0 22 rfl rfl
theorem dX0_judge_0 : decode cX0_judge 0 = .ok (.aload_n 0, 1) := dk_42 (dk_at dksX0_judge_0 0 rfl rfl)
theorem dX0_judge_1 : decode cX0_judge 1 = .ok (.iload_n 1, 1) := dk_27 (dk_at dksX0_judge_0 1 rfl rfl)
theorem dX0_judge_2 : decode cX0_judge 2 = .ok (.invokevirtual 170, 3) := dk_182 0 170 (dk_at dksX0_judge_0 2 rfl rfl)
theorem dX0_judge_5 : decode cX0_judge 5 = .ok (.ifCond .eq 20, 3) := dk_153 0 20 (dk_at dksX0_judge_0 5 rfl rfl)
theorem dX0_judge_8 : decode cX0_judge 8 = .ok (.aload_n 0, 1) := dk_42 (dk_at dksX0_judge_0 8 rfl rfl)
theorem dX0_judge_9 : decode cX0_judge 9 = .ok (.getfield 10, 3) := dk_180 0 10 (dk_at dksX0_judge_0 9 rfl rfl)
theorem dX0_judge_12 : decode cX0_judge 12 = .ok (.getfield 44, 3) := dk_180 0 44 (dk_at dksX0_judge_0 12 rfl rfl)
theorem dX0_judge_15 : decode cX0_judge 15 = .ok (.iload_n 1, 1) := dk_27 (dk_at dksX0_judge_0 15 rfl rfl)
theorem dX0_judge_16 : decode cX0_judge 16 = .ok (.invokevirtual 173, 3) := dk_182 0 173 (dk_at dksX0_judge_0 16 rfl rfl)
theorem dX0_judge_19 : decode cX0_judge 19 = .ok (.invokevirtual 177, 3) := dk_182 0 177 (dk_at dksX0_judge_0 19 rfl rfl)
theorem dX0_judge_22 : decode cX0_judge 22 = .ok (.goto 5, 3) := dk_167 0 5 (dk_at dksX0_judge_1 0 rfl rfl)
theorem dX0_judge_25 : decode cX0_judge 25 = .ok (.bipush (-2), 2) := dk_16 254 (dk_at dksX0_judge_1 3 rfl rfl)
theorem dX0_judge_27 : decode cX0_judge 27 = .ok (.ireturn, 1) := dk_172 (dk_at dksX0_judge_1 5 rfl rfl)
abbrev cX0_isPlan : ByteArray := prog_1_method_8_code
def yX0_isPlan : MethodName := ⟨RX0, "isPlan", "(I)Z"⟩
def dkwX0_isPlan_0 : List UInt8 := [27, 3, 42, 180, 0, 10, 180, 0, 44, 182, 0, 64, 4, 100, 184, 0, 54, 172]
abbrev dktX0_isPlan_0 : List UInt8 := dkwX0_isPlan_0 ++ []
theorem dksX0_isPlan_0 : cX0_isPlan.data.toList.drop 0 = dktX0_isPlan_0 := by decide +kernel
theorem dX0_isPlan_0 : decode cX0_isPlan 0 = .ok (.iload_n 1, 1) := dk_27 (dk_at dksX0_isPlan_0 0 rfl rfl)
theorem dX0_isPlan_1 : decode cX0_isPlan 1 = .ok (.iconst 0, 1) := dk_3 (dk_at dksX0_isPlan_0 1 rfl rfl)
theorem dX0_isPlan_2 : decode cX0_isPlan 2 = .ok (.aload_n 0, 1) := dk_42 (dk_at dksX0_isPlan_0 2 rfl rfl)
theorem dX0_isPlan_3 : decode cX0_isPlan 3 = .ok (.getfield 10, 3) := dk_180 0 10 (dk_at dksX0_isPlan_0 3 rfl rfl)
theorem dX0_isPlan_6 : decode cX0_isPlan 6 = .ok (.getfield 44, 3) := dk_180 0 44 (dk_at dksX0_isPlan_0 6 rfl rfl)
theorem dX0_isPlan_9 : decode cX0_isPlan 9 = .ok (.invokevirtual 64, 3) := dk_182 0 64 (dk_at dksX0_isPlan_0 9 rfl rfl)
theorem dX0_isPlan_12 : decode cX0_isPlan 12 = .ok (.iconst 1, 1) := dk_4 (dk_at dksX0_isPlan_0 12 rfl rfl)
theorem dX0_isPlan_13 : decode cX0_isPlan 13 = .ok (.isub, 1) := dk_100 (dk_at dksX0_isPlan_0 13 rfl rfl)
theorem dX0_isPlan_14 : decode cX0_isPlan 14 = .ok (.invokestatic 54, 3) := dk_184 0 54 (dk_at dksX0_isPlan_0 14 rfl rfl)
theorem dX0_isPlan_17 : decode cX0_isPlan 17 = .ok (.ireturn, 1) := dk_172 (dk_at dksX0_isPlan_0 17 rfl rfl)
abbrev cX0_plan : ByteArray := prog_1_method_28_code
def yX0_plan : MethodName := ⟨RX0, "plan", "(II)I"⟩
def dkwX0_plan_6 : List UInt8 := [182, 0, 197, 172]
abbrev dktX0_plan_6 : List UInt8 := dkwX0_plan_6 ++ []
def dkwX0_plan_5 : List UInt8 := [180, 0, 44, 27, 182, 0, 191, 172, 42, 180, 0, 10, 27, 182, 0, 194, 172, 42, 180, 0, 10, 27]
abbrev dktX0_plan_5 : List UInt8 := dkwX0_plan_5 ++ dktX0_plan_6
def dkwX0_plan_4 : List UInt8 := [180, 0, 10, 180, 0, 44, 27, 182, 0, 188, 172, 29, 153, 0, 8, 16, 252, 167, 0, 14, 42, 180, 0, 10]
abbrev dktX0_plan_4 : List UInt8 := dkwX0_plan_4 ++ dktX0_plan_5
def dkwX0_plan_3 : List UInt8 := [29, 153, 0, 8, 16, 252, 167, 0, 14, 42, 180, 0, 10, 180, 0, 44, 27, 182, 0, 185, 172, 42]
abbrev dktX0_plan_3 : List UInt8 := dkwX0_plan_3 ++ dktX0_plan_4
def dkwX0_plan_2 : List UInt8 := [170, 0, 0, 0, 92, 0, 0, 0, 0, 0, 0, 0, 3, 0, 0, 0, 29, 0, 0, 0, 50, 0, 0, 0, 62, 0, 0, 0, 83]
abbrev dktX0_plan_2 : List UInt8 := dkwX0_plan_2 ++ dktX0_plan_3
def dkwX0_plan_1 : List UInt8 := [180, 0, 44, 27, 182, 0, 182, 16, 251, 159, 0, 7, 4, 167, 0, 4, 3, 62, 28]
abbrev dktX0_plan_1 : List UInt8 := dkwX0_plan_1 ++ dktX0_plan_2
def dkwX0_plan_0 : List UInt8 := [42, 27, 182, 0, 170, 153, 0, 12, 28, 3, 7, 184, 0, 54, 154, 0, 6, 16, 254, 172, 42, 180, 0, 10]
abbrev dktX0_plan_0 : List UInt8 := dkwX0_plan_0 ++ dktX0_plan_1
theorem dksX0_plan_0 : cX0_plan.data.toList.drop 0 = dktX0_plan_0 := by decide +kernel
theorem dksX0_plan_1 : cX0_plan.data.toList.drop 24 = dktX0_plan_1 := dk_seg dksX0_plan_0 24 rfl rfl
theorem dksX0_plan_2 : cX0_plan.data.toList.drop 43 = dktX0_plan_2 := dk_seg dksX0_plan_1 19 rfl rfl
theorem dksX0_plan_3 : cX0_plan.data.toList.drop 72 = dktX0_plan_3 := dk_seg dksX0_plan_2 29 rfl rfl
theorem dksX0_plan_4 : cX0_plan.data.toList.drop 94 = dktX0_plan_4 := dk_seg dksX0_plan_3 22 rfl rfl
theorem dksX0_plan_5 : cX0_plan.data.toList.drop 118 = dktX0_plan_5 := dk_seg dksX0_plan_4 24 rfl rfl
theorem dksX0_plan_6 : cX0_plan.data.toList.drop 140 = dktX0_plan_6 := dk_seg dksX0_plan_5 22 rfl rfl
theorem dX0_plan_0 : decode cX0_plan 0 = .ok (.aload_n 0, 1) := dk_42 (dk_at dksX0_plan_0 0 rfl rfl)
theorem dX0_plan_1 : decode cX0_plan 1 = .ok (.iload_n 1, 1) := dk_27 (dk_at dksX0_plan_0 1 rfl rfl)
theorem dX0_plan_2 : decode cX0_plan 2 = .ok (.invokevirtual 170, 3) := dk_182 0 170 (dk_at dksX0_plan_0 2 rfl rfl)
theorem dX0_plan_5 : decode cX0_plan 5 = .ok (.ifCond .eq 12, 3) := dk_153 0 12 (dk_at dksX0_plan_0 5 rfl rfl)
theorem dX0_plan_8 : decode cX0_plan 8 = .ok (.iload_n 2, 1) := dk_28 (dk_at dksX0_plan_0 8 rfl rfl)
theorem dX0_plan_9 : decode cX0_plan 9 = .ok (.iconst 0, 1) := dk_3 (dk_at dksX0_plan_0 9 rfl rfl)
theorem dX0_plan_10 : decode cX0_plan 10 = .ok (.iconst 4, 1) := dk_7 (dk_at dksX0_plan_0 10 rfl rfl)
theorem dX0_plan_11 : decode cX0_plan 11 = .ok (.invokestatic 54, 3) := dk_184 0 54 (dk_at dksX0_plan_0 11 rfl rfl)
theorem dX0_plan_14 : decode cX0_plan 14 = .ok (.ifCond .ne 6, 3) := dk_154 0 6 (dk_at dksX0_plan_0 14 rfl rfl)
theorem dX0_plan_17 : decode cX0_plan 17 = .ok (.bipush (-2), 2) := dk_16 254 (dk_at dksX0_plan_0 17 rfl rfl)
theorem dX0_plan_19 : decode cX0_plan 19 = .ok (.ireturn, 1) := dk_172 (dk_at dksX0_plan_0 19 rfl rfl)
theorem dX0_plan_20 : decode cX0_plan 20 = .ok (.aload_n 0, 1) := dk_42 (dk_at dksX0_plan_0 20 rfl rfl)
theorem dX0_plan_21 : decode cX0_plan 21 = .ok (.getfield 10, 3) := dk_180 0 10 (dk_at dksX0_plan_0 21 rfl rfl)
theorem dX0_plan_24 : decode cX0_plan 24 = .ok (.getfield 44, 3) := dk_180 0 44 (dk_at dksX0_plan_1 0 rfl rfl)
theorem dX0_plan_27 : decode cX0_plan 27 = .ok (.iload_n 1, 1) := dk_27 (dk_at dksX0_plan_1 3 rfl rfl)
theorem dX0_plan_28 : decode cX0_plan 28 = .ok (.invokevirtual 182, 3) := dk_182 0 182 (dk_at dksX0_plan_1 4 rfl rfl)
theorem dX0_plan_31 : decode cX0_plan 31 = .ok (.bipush (-5), 2) := dk_16 251 (dk_at dksX0_plan_1 7 rfl rfl)
theorem dX0_plan_33 : decode cX0_plan 33 = .ok (.if_icmp .eq 7, 3) := dk_159 0 7 (dk_at dksX0_plan_1 9 rfl rfl)
theorem dX0_plan_36 : decode cX0_plan 36 = .ok (.iconst 1, 1) := dk_4 (dk_at dksX0_plan_1 12 rfl rfl)
theorem dX0_plan_37 : decode cX0_plan 37 = .ok (.goto 4, 3) := dk_167 0 4 (dk_at dksX0_plan_1 13 rfl rfl)
theorem dX0_plan_40 : decode cX0_plan 40 = .ok (.iconst 0, 1) := dk_3 (dk_at dksX0_plan_1 16 rfl rfl)
theorem dX0_plan_41 : decode cX0_plan 41 = .ok (.istore_n 3, 1) := dk_62 (dk_at dksX0_plan_1 17 rfl rfl)
theorem dX0_plan_42 : decode cX0_plan 42 = .ok (.iload_n 2, 1) := dk_28 (dk_at dksX0_plan_1 18 rfl rfl)
theorem dX0_plan_43 : decode cX0_plan 43 = .ok (.tableswitch 92 0 3 #[29, 50, 62, 83], 29) := by decide +kernel
theorem dX0_plan_72 : decode cX0_plan 72 = .ok (.iload_n 3, 1) := dk_29 (dk_at dksX0_plan_3 0 rfl rfl)
theorem dX0_plan_73 : decode cX0_plan 73 = .ok (.ifCond .eq 8, 3) := dk_153 0 8 (dk_at dksX0_plan_3 1 rfl rfl)
theorem dX0_plan_76 : decode cX0_plan 76 = .ok (.bipush (-4), 2) := dk_16 252 (dk_at dksX0_plan_3 4 rfl rfl)
theorem dX0_plan_78 : decode cX0_plan 78 = .ok (.goto 14, 3) := dk_167 0 14 (dk_at dksX0_plan_3 6 rfl rfl)
theorem dX0_plan_81 : decode cX0_plan 81 = .ok (.aload_n 0, 1) := dk_42 (dk_at dksX0_plan_3 9 rfl rfl)
theorem dX0_plan_82 : decode cX0_plan 82 = .ok (.getfield 10, 3) := dk_180 0 10 (dk_at dksX0_plan_3 10 rfl rfl)
theorem dX0_plan_85 : decode cX0_plan 85 = .ok (.getfield 44, 3) := dk_180 0 44 (dk_at dksX0_plan_3 13 rfl rfl)
theorem dX0_plan_88 : decode cX0_plan 88 = .ok (.iload_n 1, 1) := dk_27 (dk_at dksX0_plan_3 16 rfl rfl)
theorem dX0_plan_89 : decode cX0_plan 89 = .ok (.invokevirtual 185, 3) := dk_182 0 185 (dk_at dksX0_plan_3 17 rfl rfl)
theorem dX0_plan_92 : decode cX0_plan 92 = .ok (.ireturn, 1) := dk_172 (dk_at dksX0_plan_3 20 rfl rfl)
theorem dX0_plan_93 : decode cX0_plan 93 = .ok (.aload_n 0, 1) := dk_42 (dk_at dksX0_plan_3 21 rfl rfl)
theorem dX0_plan_94 : decode cX0_plan 94 = .ok (.getfield 10, 3) := dk_180 0 10 (dk_at dksX0_plan_4 0 rfl rfl)
theorem dX0_plan_97 : decode cX0_plan 97 = .ok (.getfield 44, 3) := dk_180 0 44 (dk_at dksX0_plan_4 3 rfl rfl)
theorem dX0_plan_100 : decode cX0_plan 100 = .ok (.iload_n 1, 1) := dk_27 (dk_at dksX0_plan_4 6 rfl rfl)
theorem dX0_plan_101 : decode cX0_plan 101 = .ok (.invokevirtual 188, 3) := dk_182 0 188 (dk_at dksX0_plan_4 7 rfl rfl)
theorem dX0_plan_104 : decode cX0_plan 104 = .ok (.ireturn, 1) := dk_172 (dk_at dksX0_plan_4 10 rfl rfl)
theorem dX0_plan_105 : decode cX0_plan 105 = .ok (.iload_n 3, 1) := dk_29 (dk_at dksX0_plan_4 11 rfl rfl)
theorem dX0_plan_106 : decode cX0_plan 106 = .ok (.ifCond .eq 8, 3) := dk_153 0 8 (dk_at dksX0_plan_4 12 rfl rfl)
theorem dX0_plan_109 : decode cX0_plan 109 = .ok (.bipush (-4), 2) := dk_16 252 (dk_at dksX0_plan_4 15 rfl rfl)
theorem dX0_plan_111 : decode cX0_plan 111 = .ok (.goto 14, 3) := dk_167 0 14 (dk_at dksX0_plan_4 17 rfl rfl)
theorem dX0_plan_114 : decode cX0_plan 114 = .ok (.aload_n 0, 1) := dk_42 (dk_at dksX0_plan_4 20 rfl rfl)
theorem dX0_plan_115 : decode cX0_plan 115 = .ok (.getfield 10, 3) := dk_180 0 10 (dk_at dksX0_plan_4 21 rfl rfl)
theorem dX0_plan_118 : decode cX0_plan 118 = .ok (.getfield 44, 3) := dk_180 0 44 (dk_at dksX0_plan_5 0 rfl rfl)
theorem dX0_plan_121 : decode cX0_plan 121 = .ok (.iload_n 1, 1) := dk_27 (dk_at dksX0_plan_5 3 rfl rfl)
theorem dX0_plan_122 : decode cX0_plan 122 = .ok (.invokevirtual 191, 3) := dk_182 0 191 (dk_at dksX0_plan_5 4 rfl rfl)
theorem dX0_plan_125 : decode cX0_plan 125 = .ok (.ireturn, 1) := dk_172 (dk_at dksX0_plan_5 7 rfl rfl)
theorem dX0_plan_126 : decode cX0_plan 126 = .ok (.aload_n 0, 1) := dk_42 (dk_at dksX0_plan_5 8 rfl rfl)
theorem dX0_plan_127 : decode cX0_plan 127 = .ok (.getfield 10, 3) := dk_180 0 10 (dk_at dksX0_plan_5 9 rfl rfl)
theorem dX0_plan_130 : decode cX0_plan 130 = .ok (.iload_n 1, 1) := dk_27 (dk_at dksX0_plan_5 12 rfl rfl)
theorem dX0_plan_131 : decode cX0_plan 131 = .ok (.invokevirtual 194, 3) := dk_182 0 194 (dk_at dksX0_plan_5 13 rfl rfl)
theorem dX0_plan_134 : decode cX0_plan 134 = .ok (.ireturn, 1) := dk_172 (dk_at dksX0_plan_5 16 rfl rfl)
theorem dX0_plan_135 : decode cX0_plan 135 = .ok (.aload_n 0, 1) := dk_42 (dk_at dksX0_plan_5 17 rfl rfl)
theorem dX0_plan_136 : decode cX0_plan 136 = .ok (.getfield 10, 3) := dk_180 0 10 (dk_at dksX0_plan_5 18 rfl rfl)
theorem dX0_plan_139 : decode cX0_plan 139 = .ok (.iload_n 1, 1) := dk_27 (dk_at dksX0_plan_5 21 rfl rfl)
theorem dX0_plan_140 : decode cX0_plan 140 = .ok (.invokevirtual 197, 3) := dk_182 0 197 (dk_at dksX0_plan_6 0 rfl rfl)
theorem dX0_plan_143 : decode cX0_plan 143 = .ok (.ireturn, 1) := dk_172 (dk_at dksX0_plan_6 3 rfl rfl)
abbrev cX0_serves : ByteArray := prog_1_method_29_code
def yX0_serves : MethodName := ⟨RX0, "serves", "(II)I"⟩
def dkwX0_serves_1 : List UInt8 := [180, 0, 44, 27, 28, 182, 0, 200, 167, 0, 4, 2, 172]
abbrev dktX0_serves_1 : List UInt8 := dkwX0_serves_1 ++ []
def dkwX0_serves_0 : List UInt8 := [42, 27, 182, 0, 170, 154, 0, 6, 16, 254, 172, 42, 28, 182, 0, 92, 153, 0, 18, 42, 180, 0, 10]
abbrev dktX0_serves_0 : List UInt8 := dkwX0_serves_0 ++ dktX0_serves_1
theorem dksX0_serves_0 : cX0_serves.data.toList.drop 0 = dktX0_serves_0 := by decide +kernel
theorem dksX0_serves_1 : cX0_serves.data.toList.drop 23 = dktX0_serves_1 := dk_seg dksX0_serves_0 23 rfl rfl
theorem dX0_serves_0 : decode cX0_serves 0 = .ok (.aload_n 0, 1) := dk_42 (dk_at dksX0_serves_0 0 rfl rfl)
theorem dX0_serves_1 : decode cX0_serves 1 = .ok (.iload_n 1, 1) := dk_27 (dk_at dksX0_serves_0 1 rfl rfl)
theorem dX0_serves_2 : decode cX0_serves 2 = .ok (.invokevirtual 170, 3) := dk_182 0 170 (dk_at dksX0_serves_0 2 rfl rfl)
theorem dX0_serves_5 : decode cX0_serves 5 = .ok (.ifCond .ne 6, 3) := dk_154 0 6 (dk_at dksX0_serves_0 5 rfl rfl)
theorem dX0_serves_8 : decode cX0_serves 8 = .ok (.bipush (-2), 2) := dk_16 254 (dk_at dksX0_serves_0 8 rfl rfl)
theorem dX0_serves_10 : decode cX0_serves 10 = .ok (.ireturn, 1) := dk_172 (dk_at dksX0_serves_0 10 rfl rfl)
theorem dX0_serves_11 : decode cX0_serves 11 = .ok (.aload_n 0, 1) := dk_42 (dk_at dksX0_serves_0 11 rfl rfl)
theorem dX0_serves_12 : decode cX0_serves 12 = .ok (.iload_n 2, 1) := dk_28 (dk_at dksX0_serves_0 12 rfl rfl)
theorem dX0_serves_13 : decode cX0_serves 13 = .ok (.invokevirtual 92, 3) := dk_182 0 92 (dk_at dksX0_serves_0 13 rfl rfl)
theorem dX0_serves_16 : decode cX0_serves 16 = .ok (.ifCond .eq 18, 3) := dk_153 0 18 (dk_at dksX0_serves_0 16 rfl rfl)
theorem dX0_serves_19 : decode cX0_serves 19 = .ok (.aload_n 0, 1) := dk_42 (dk_at dksX0_serves_0 19 rfl rfl)
theorem dX0_serves_20 : decode cX0_serves 20 = .ok (.getfield 10, 3) := dk_180 0 10 (dk_at dksX0_serves_0 20 rfl rfl)
theorem dX0_serves_23 : decode cX0_serves 23 = .ok (.getfield 44, 3) := dk_180 0 44 (dk_at dksX0_serves_1 0 rfl rfl)
theorem dX0_serves_26 : decode cX0_serves 26 = .ok (.iload_n 1, 1) := dk_27 (dk_at dksX0_serves_1 3 rfl rfl)
theorem dX0_serves_27 : decode cX0_serves 27 = .ok (.iload_n 2, 1) := dk_28 (dk_at dksX0_serves_1 4 rfl rfl)
theorem dX0_serves_28 : decode cX0_serves 28 = .ok (.invokevirtual 200, 3) := dk_182 0 200 (dk_at dksX0_serves_1 5 rfl rfl)
theorem dX0_serves_31 : decode cX0_serves 31 = .ok (.goto 4, 3) := dk_167 0 4 (dk_at dksX0_serves_1 8 rfl rfl)
theorem dX0_serves_34 : decode cX0_serves 34 = .ok (.iconst (-1), 1) := dk_2 (dk_at dksX0_serves_1 11 rfl rfl)
theorem dX0_serves_35 : decode cX0_serves 35 = .ok (.ireturn, 1) := dk_172 (dk_at dksX0_serves_1 12 rfl rfl)
abbrev cX0_cut : ByteArray := prog_1_method_30_code
def yX0_cut : MethodName := ⟨RX0, "cut", "(II)I"⟩
def dkwX0_cut_5 : List UInt8 := [186, 0, 226, 0, 0, 182, 0, 222, 172, 16, 254, 172]
abbrev dktX0_cut_5 : List UInt8 := dkwX0_cut_5 ++ []
def dkwX0_cut_4 : List UInt8 := [172, 25, 4, 25, 4, 45, 186, 0, 218, 0, 0, 182, 0, 222, 172, 25, 4, 25, 4, 45]
abbrev dktX0_cut_4 : List UInt8 := dkwX0_cut_4 ++ dktX0_cut_5
def dkwX0_cut_3 : List UInt8 := [45, 182, 0, 208, 153, 0, 7, 3, 167, 0, 4, 4, 172, 45, 182, 0, 211, 172, 45, 25, 4, 182, 0, 214]
abbrev dktX0_cut_3 : List UInt8 := dkwX0_cut_3 ++ dktX0_cut_4
def dkwX0_cut_2 : List UInt8 := [170, 0, 0, 0, 0, 0, 88, 0, 0, 0, 0, 0, 0, 0, 4, 0, 0, 0, 35, 0, 0, 0, 48, 0, 0, 0, 53, 0, 0, 0, 60, 0, 0, 0, 74]
abbrev dktX0_cut_2 : List UInt8 := dkwX0_cut_2 ++ dktX0_cut_3
def dkwX0_cut_1 : List UInt8 := [192, 0, 206, 78, 42, 180, 0, 10, 180, 0, 44, 58, 4, 28]
abbrev dktX0_cut_1 : List UInt8 := dkwX0_cut_1 ++ dktX0_cut_2
def dkwX0_cut_0 : List UInt8 := [42, 27, 182, 0, 143, 154, 0, 5, 2, 172, 42, 180, 0, 10, 180, 0, 61, 27, 185, 0, 203, 2, 0]
abbrev dktX0_cut_0 : List UInt8 := dkwX0_cut_0 ++ dktX0_cut_1
theorem dksX0_cut_0 : cX0_cut.data.toList.drop 0 = dktX0_cut_0 := by decide +kernel
theorem dksX0_cut_1 : cX0_cut.data.toList.drop 23 = dktX0_cut_1 := dk_seg dksX0_cut_0 23 rfl rfl
theorem dksX0_cut_2 : cX0_cut.data.toList.drop 37 = dktX0_cut_2 := dk_seg dksX0_cut_1 14 rfl rfl
theorem dksX0_cut_3 : cX0_cut.data.toList.drop 72 = dktX0_cut_3 := dk_seg dksX0_cut_2 35 rfl rfl
theorem dksX0_cut_4 : cX0_cut.data.toList.drop 96 = dktX0_cut_4 := dk_seg dksX0_cut_3 24 rfl rfl
theorem dksX0_cut_5 : cX0_cut.data.toList.drop 116 = dktX0_cut_5 := dk_seg dksX0_cut_4 20 rfl rfl
theorem dX0_cut_0 : decode cX0_cut 0 = .ok (.aload_n 0, 1) := dk_42 (dk_at dksX0_cut_0 0 rfl rfl)
theorem dX0_cut_1 : decode cX0_cut 1 = .ok (.iload_n 1, 1) := dk_27 (dk_at dksX0_cut_0 1 rfl rfl)
theorem dX0_cut_2 : decode cX0_cut 2 = .ok (.invokevirtual 143, 3) := dk_182 0 143 (dk_at dksX0_cut_0 2 rfl rfl)
theorem dX0_cut_5 : decode cX0_cut 5 = .ok (.ifCond .ne 5, 3) := dk_154 0 5 (dk_at dksX0_cut_0 5 rfl rfl)
theorem dX0_cut_8 : decode cX0_cut 8 = .ok (.iconst (-1), 1) := dk_2 (dk_at dksX0_cut_0 8 rfl rfl)
theorem dX0_cut_9 : decode cX0_cut 9 = .ok (.ireturn, 1) := dk_172 (dk_at dksX0_cut_0 9 rfl rfl)
theorem dX0_cut_10 : decode cX0_cut 10 = .ok (.aload_n 0, 1) := dk_42 (dk_at dksX0_cut_0 10 rfl rfl)
theorem dX0_cut_11 : decode cX0_cut 11 = .ok (.getfield 10, 3) := dk_180 0 10 (dk_at dksX0_cut_0 11 rfl rfl)
theorem dX0_cut_14 : decode cX0_cut 14 = .ok (.getfield 61, 3) := dk_180 0 61 (dk_at dksX0_cut_0 14 rfl rfl)
theorem dX0_cut_17 : decode cX0_cut 17 = .ok (.iload_n 1, 1) := dk_27 (dk_at dksX0_cut_0 17 rfl rfl)
theorem dX0_cut_18 : decode cX0_cut 18 = .ok (.invokeinterface 203 2, 5) := by decide +kernel
theorem dX0_cut_23 : decode cX0_cut 23 = .ok (.checkcast 206, 3) := dk_192 0 206 (dk_at dksX0_cut_1 0 rfl rfl)
theorem dX0_cut_26 : decode cX0_cut 26 = .ok (.astore_n 3, 1) := dk_78 (dk_at dksX0_cut_1 3 rfl rfl)
theorem dX0_cut_27 : decode cX0_cut 27 = .ok (.aload_n 0, 1) := dk_42 (dk_at dksX0_cut_1 4 rfl rfl)
theorem dX0_cut_28 : decode cX0_cut 28 = .ok (.getfield 10, 3) := dk_180 0 10 (dk_at dksX0_cut_1 5 rfl rfl)
theorem dX0_cut_31 : decode cX0_cut 31 = .ok (.getfield 44, 3) := dk_180 0 44 (dk_at dksX0_cut_1 8 rfl rfl)
theorem dX0_cut_34 : decode cX0_cut 34 = .ok (.astore 4, 2) := dk_58 4 (dk_at dksX0_cut_1 11 rfl rfl)
theorem dX0_cut_36 : decode cX0_cut 36 = .ok (.iload_n 2, 1) := dk_28 (dk_at dksX0_cut_1 13 rfl rfl)
theorem dX0_cut_37 : decode cX0_cut 37 = .ok (.tableswitch 88 0 4 #[35, 48, 53, 60, 74], 35) := by decide +kernel
theorem dX0_cut_72 : decode cX0_cut 72 = .ok (.aload_n 3, 1) := dk_45 (dk_at dksX0_cut_3 0 rfl rfl)
theorem dX0_cut_73 : decode cX0_cut 73 = .ok (.invokevirtual 208, 3) := dk_182 0 208 (dk_at dksX0_cut_3 1 rfl rfl)
theorem dX0_cut_76 : decode cX0_cut 76 = .ok (.ifCond .eq 7, 3) := dk_153 0 7 (dk_at dksX0_cut_3 4 rfl rfl)
theorem dX0_cut_79 : decode cX0_cut 79 = .ok (.iconst 0, 1) := dk_3 (dk_at dksX0_cut_3 7 rfl rfl)
theorem dX0_cut_80 : decode cX0_cut 80 = .ok (.goto 4, 3) := dk_167 0 4 (dk_at dksX0_cut_3 8 rfl rfl)
theorem dX0_cut_83 : decode cX0_cut 83 = .ok (.iconst 1, 1) := dk_4 (dk_at dksX0_cut_3 11 rfl rfl)
theorem dX0_cut_84 : decode cX0_cut 84 = .ok (.ireturn, 1) := dk_172 (dk_at dksX0_cut_3 12 rfl rfl)
theorem dX0_cut_85 : decode cX0_cut 85 = .ok (.aload_n 3, 1) := dk_45 (dk_at dksX0_cut_3 13 rfl rfl)
theorem dX0_cut_86 : decode cX0_cut 86 = .ok (.invokevirtual 211, 3) := dk_182 0 211 (dk_at dksX0_cut_3 14 rfl rfl)
theorem dX0_cut_89 : decode cX0_cut 89 = .ok (.ireturn, 1) := dk_172 (dk_at dksX0_cut_3 17 rfl rfl)
theorem dX0_cut_90 : decode cX0_cut 90 = .ok (.aload_n 3, 1) := dk_45 (dk_at dksX0_cut_3 18 rfl rfl)
theorem dX0_cut_91 : decode cX0_cut 91 = .ok (.aload 4, 2) := dk_25 4 (dk_at dksX0_cut_3 19 rfl rfl)
theorem dX0_cut_93 : decode cX0_cut 93 = .ok (.invokevirtual 214, 3) := dk_182 0 214 (dk_at dksX0_cut_3 21 rfl rfl)
theorem dX0_cut_96 : decode cX0_cut 96 = .ok (.ireturn, 1) := dk_172 (dk_at dksX0_cut_4 0 rfl rfl)
theorem dX0_cut_97 : decode cX0_cut 97 = .ok (.aload 4, 2) := dk_25 4 (dk_at dksX0_cut_4 1 rfl rfl)
theorem dX0_cut_99 : decode cX0_cut 99 = .ok (.aload 4, 2) := dk_25 4 (dk_at dksX0_cut_4 3 rfl rfl)
theorem dX0_cut_101 : decode cX0_cut 101 = .ok (.aload_n 3, 1) := dk_45 (dk_at dksX0_cut_4 5 rfl rfl)
theorem dX0_cut_102 : decode cX0_cut 102 = .ok (.invokedynamic 218, 5) := by decide +kernel
theorem dX0_cut_107 : decode cX0_cut 107 = .ok (.invokevirtual 222, 3) := dk_182 0 222 (dk_at dksX0_cut_4 11 rfl rfl)
theorem dX0_cut_110 : decode cX0_cut 110 = .ok (.ireturn, 1) := dk_172 (dk_at dksX0_cut_4 14 rfl rfl)
theorem dX0_cut_111 : decode cX0_cut 111 = .ok (.aload 4, 2) := dk_25 4 (dk_at dksX0_cut_4 15 rfl rfl)
theorem dX0_cut_113 : decode cX0_cut 113 = .ok (.aload 4, 2) := dk_25 4 (dk_at dksX0_cut_4 17 rfl rfl)
theorem dX0_cut_115 : decode cX0_cut 115 = .ok (.aload_n 3, 1) := dk_45 (dk_at dksX0_cut_4 19 rfl rfl)
theorem dX0_cut_116 : decode cX0_cut 116 = .ok (.invokedynamic 226, 5) := by decide +kernel
theorem dX0_cut_121 : decode cX0_cut 121 = .ok (.invokevirtual 222, 3) := dk_182 0 222 (dk_at dksX0_cut_5 5 rfl rfl)
theorem dX0_cut_124 : decode cX0_cut 124 = .ok (.ireturn, 1) := dk_172 (dk_at dksX0_cut_5 8 rfl rfl)
theorem dX0_cut_125 : decode cX0_cut 125 = .ok (.bipush (-2), 2) := dk_16 254 (dk_at dksX0_cut_5 9 rfl rfl)
theorem dX0_cut_127 : decode cX0_cut 127 = .ok (.ireturn, 1) := dk_172 (dk_at dksX0_cut_5 11 rfl rfl)
abbrev cX0_lambda_cut_0 : ByteArray := prog_1_method_41_code
def yX0_lambda_cut_0 : MethodName := ⟨RX0, "lambda$cut$0", "(LSiteCuts$Land;LSiteCuts$Cut;I)Z"⟩
def dkwX0_lambda_cut_0_0 : List UInt8 := [42, 28, 182, 0, 255, 153, 0, 16, 43, 42, 28, 182, 1, 6, 153, 0, 7, 4, 167, 0, 4, 3, 172]
abbrev dktX0_lambda_cut_0_0 : List UInt8 := dkwX0_lambda_cut_0_0 ++ []
theorem dksX0_lambda_cut_0_0 : cX0_lambda_cut_0.data.toList.drop 0 = dktX0_lambda_cut_0_0 := by decide +kernel
theorem dX0_lambda_cut_0_0 : decode cX0_lambda_cut_0 0 = .ok (.aload_n 0, 1) := dk_42 (dk_at dksX0_lambda_cut_0_0 0 rfl rfl)
theorem dX0_lambda_cut_0_1 : decode cX0_lambda_cut_0 1 = .ok (.iload_n 2, 1) := dk_28 (dk_at dksX0_lambda_cut_0_0 1 rfl rfl)
theorem dX0_lambda_cut_0_2 : decode cX0_lambda_cut_0 2 = .ok (.invokevirtual 255, 3) := dk_182 0 255 (dk_at dksX0_lambda_cut_0_0 2 rfl rfl)
theorem dX0_lambda_cut_0_5 : decode cX0_lambda_cut_0 5 = .ok (.ifCond .eq 16, 3) := dk_153 0 16 (dk_at dksX0_lambda_cut_0_0 5 rfl rfl)
theorem dX0_lambda_cut_0_8 : decode cX0_lambda_cut_0 8 = .ok (.aload_n 1, 1) := dk_43 (dk_at dksX0_lambda_cut_0_0 8 rfl rfl)
theorem dX0_lambda_cut_0_9 : decode cX0_lambda_cut_0 9 = .ok (.aload_n 0, 1) := dk_42 (dk_at dksX0_lambda_cut_0_0 9 rfl rfl)
theorem dX0_lambda_cut_0_10 : decode cX0_lambda_cut_0 10 = .ok (.iload_n 2, 1) := dk_28 (dk_at dksX0_lambda_cut_0_0 10 rfl rfl)
theorem dX0_lambda_cut_0_11 : decode cX0_lambda_cut_0 11 = .ok (.invokevirtual 262, 3) := dk_182 1 6 (dk_at dksX0_lambda_cut_0_0 11 rfl rfl)
theorem dX0_lambda_cut_0_14 : decode cX0_lambda_cut_0 14 = .ok (.ifCond .eq 7, 3) := dk_153 0 7 (dk_at dksX0_lambda_cut_0_0 14 rfl rfl)
theorem dX0_lambda_cut_0_17 : decode cX0_lambda_cut_0 17 = .ok (.iconst 1, 1) := dk_4 (dk_at dksX0_lambda_cut_0_0 17 rfl rfl)
theorem dX0_lambda_cut_0_18 : decode cX0_lambda_cut_0 18 = .ok (.goto 4, 3) := dk_167 0 4 (dk_at dksX0_lambda_cut_0_0 18 rfl rfl)
theorem dX0_lambda_cut_0_21 : decode cX0_lambda_cut_0 21 = .ok (.iconst 0, 1) := dk_3 (dk_at dksX0_lambda_cut_0_0 21 rfl rfl)
theorem dX0_lambda_cut_0_22 : decode cX0_lambda_cut_0 22 = .ok (.ireturn, 1) := dk_172 (dk_at dksX0_lambda_cut_0_0 22 rfl rfl)
abbrev cX0_lambda_cut_1 : ByteArray := prog_1_method_40_code
def yX0_lambda_cut_1 : MethodName := ⟨RX0, "lambda$cut$1", "(LSiteCuts$Land;LSiteCuts$Cut;I)Z"⟩
def dkwX0_lambda_cut_1_0 : List UInt8 := [42, 28, 182, 0, 255, 153, 0, 16, 43, 42, 28, 182, 1, 2, 153, 0, 7, 4, 167, 0, 4, 3, 172]
abbrev dktX0_lambda_cut_1_0 : List UInt8 := dkwX0_lambda_cut_1_0 ++ []
theorem dksX0_lambda_cut_1_0 : cX0_lambda_cut_1.data.toList.drop 0 = dktX0_lambda_cut_1_0 := by decide +kernel
theorem dX0_lambda_cut_1_0 : decode cX0_lambda_cut_1 0 = .ok (.aload_n 0, 1) := dk_42 (dk_at dksX0_lambda_cut_1_0 0 rfl rfl)
theorem dX0_lambda_cut_1_1 : decode cX0_lambda_cut_1 1 = .ok (.iload_n 2, 1) := dk_28 (dk_at dksX0_lambda_cut_1_0 1 rfl rfl)
theorem dX0_lambda_cut_1_2 : decode cX0_lambda_cut_1 2 = .ok (.invokevirtual 255, 3) := dk_182 0 255 (dk_at dksX0_lambda_cut_1_0 2 rfl rfl)
theorem dX0_lambda_cut_1_5 : decode cX0_lambda_cut_1 5 = .ok (.ifCond .eq 16, 3) := dk_153 0 16 (dk_at dksX0_lambda_cut_1_0 5 rfl rfl)
theorem dX0_lambda_cut_1_8 : decode cX0_lambda_cut_1 8 = .ok (.aload_n 1, 1) := dk_43 (dk_at dksX0_lambda_cut_1_0 8 rfl rfl)
theorem dX0_lambda_cut_1_9 : decode cX0_lambda_cut_1 9 = .ok (.aload_n 0, 1) := dk_42 (dk_at dksX0_lambda_cut_1_0 9 rfl rfl)
theorem dX0_lambda_cut_1_10 : decode cX0_lambda_cut_1 10 = .ok (.iload_n 2, 1) := dk_28 (dk_at dksX0_lambda_cut_1_0 10 rfl rfl)
theorem dX0_lambda_cut_1_11 : decode cX0_lambda_cut_1 11 = .ok (.invokevirtual 258, 3) := dk_182 1 2 (dk_at dksX0_lambda_cut_1_0 11 rfl rfl)
theorem dX0_lambda_cut_1_14 : decode cX0_lambda_cut_1 14 = .ok (.ifCond .eq 7, 3) := dk_153 0 7 (dk_at dksX0_lambda_cut_1_0 14 rfl rfl)
theorem dX0_lambda_cut_1_17 : decode cX0_lambda_cut_1 17 = .ok (.iconst 1, 1) := dk_4 (dk_at dksX0_lambda_cut_1_0 17 rfl rfl)
theorem dX0_lambda_cut_1_18 : decode cX0_lambda_cut_1 18 = .ok (.goto 4, 3) := dk_167 0 4 (dk_at dksX0_lambda_cut_1_0 18 rfl rfl)
theorem dX0_lambda_cut_1_21 : decode cX0_lambda_cut_1 21 = .ok (.iconst 0, 1) := dk_3 (dk_at dksX0_lambda_cut_1_0 21 rfl rfl)
theorem dX0_lambda_cut_1_22 : decode cX0_lambda_cut_1 22 = .ok (.ireturn, 1) := dk_172 (dk_at dksX0_lambda_cut_1_0 22 rfl rfl)
abbrev cX0_weight : ByteArray := prog_1_method_31_code
def yX0_weight : MethodName := ⟨RX0, "weight", "(II)I"⟩
def dkwX0_weight_1 : List UInt8 := [185, 0, 203, 2, 0, 192, 0, 206, 42, 180, 0, 10, 180, 0, 44, 28, 182, 0, 227, 167, 0, 4, 2, 172]
abbrev dktX0_weight_1 : List UInt8 := dkwX0_weight_1 ++ []
def dkwX0_weight_0 : List UInt8 := [42, 27, 182, 0, 143, 153, 0, 41, 42, 28, 182, 0, 88, 153, 0, 33, 42, 180, 0, 10, 180, 0, 61, 27]
abbrev dktX0_weight_0 : List UInt8 := dkwX0_weight_0 ++ dktX0_weight_1
theorem dksX0_weight_0 : cX0_weight.data.toList.drop 0 = dktX0_weight_0 := by decide +kernel
theorem dksX0_weight_1 : cX0_weight.data.toList.drop 24 = dktX0_weight_1 := dk_seg dksX0_weight_0 24 rfl rfl
theorem dX0_weight_0 : decode cX0_weight 0 = .ok (.aload_n 0, 1) := dk_42 (dk_at dksX0_weight_0 0 rfl rfl)
theorem dX0_weight_1 : decode cX0_weight 1 = .ok (.iload_n 1, 1) := dk_27 (dk_at dksX0_weight_0 1 rfl rfl)
theorem dX0_weight_2 : decode cX0_weight 2 = .ok (.invokevirtual 143, 3) := dk_182 0 143 (dk_at dksX0_weight_0 2 rfl rfl)
theorem dX0_weight_5 : decode cX0_weight 5 = .ok (.ifCond .eq 41, 3) := dk_153 0 41 (dk_at dksX0_weight_0 5 rfl rfl)
theorem dX0_weight_8 : decode cX0_weight 8 = .ok (.aload_n 0, 1) := dk_42 (dk_at dksX0_weight_0 8 rfl rfl)
theorem dX0_weight_9 : decode cX0_weight 9 = .ok (.iload_n 2, 1) := dk_28 (dk_at dksX0_weight_0 9 rfl rfl)
theorem dX0_weight_10 : decode cX0_weight 10 = .ok (.invokevirtual 88, 3) := dk_182 0 88 (dk_at dksX0_weight_0 10 rfl rfl)
theorem dX0_weight_13 : decode cX0_weight 13 = .ok (.ifCond .eq 33, 3) := dk_153 0 33 (dk_at dksX0_weight_0 13 rfl rfl)
theorem dX0_weight_16 : decode cX0_weight 16 = .ok (.aload_n 0, 1) := dk_42 (dk_at dksX0_weight_0 16 rfl rfl)
theorem dX0_weight_17 : decode cX0_weight 17 = .ok (.getfield 10, 3) := dk_180 0 10 (dk_at dksX0_weight_0 17 rfl rfl)
theorem dX0_weight_20 : decode cX0_weight 20 = .ok (.getfield 61, 3) := dk_180 0 61 (dk_at dksX0_weight_0 20 rfl rfl)
theorem dX0_weight_23 : decode cX0_weight 23 = .ok (.iload_n 1, 1) := dk_27 (dk_at dksX0_weight_0 23 rfl rfl)
theorem dX0_weight_24 : decode cX0_weight 24 = .ok (.invokeinterface 203 2, 5) := by decide +kernel
theorem dX0_weight_29 : decode cX0_weight 29 = .ok (.checkcast 206, 3) := dk_192 0 206 (dk_at dksX0_weight_1 5 rfl rfl)
theorem dX0_weight_32 : decode cX0_weight 32 = .ok (.aload_n 0, 1) := dk_42 (dk_at dksX0_weight_1 8 rfl rfl)
theorem dX0_weight_33 : decode cX0_weight 33 = .ok (.getfield 10, 3) := dk_180 0 10 (dk_at dksX0_weight_1 9 rfl rfl)
theorem dX0_weight_36 : decode cX0_weight 36 = .ok (.getfield 44, 3) := dk_180 0 44 (dk_at dksX0_weight_1 12 rfl rfl)
theorem dX0_weight_39 : decode cX0_weight 39 = .ok (.iload_n 2, 1) := dk_28 (dk_at dksX0_weight_1 15 rfl rfl)
theorem dX0_weight_40 : decode cX0_weight 40 = .ok (.invokevirtual 227, 3) := dk_182 0 227 (dk_at dksX0_weight_1 16 rfl rfl)
theorem dX0_weight_43 : decode cX0_weight 43 = .ok (.goto 4, 3) := dk_167 0 4 (dk_at dksX0_weight_1 19 rfl rfl)
theorem dX0_weight_46 : decode cX0_weight 46 = .ok (.iconst (-1), 1) := dk_2 (dk_at dksX0_weight_1 22 rfl rfl)
theorem dX0_weight_47 : decode cX0_weight 47 = .ok (.ireturn, 1) := dk_172 (dk_at dksX0_weight_1 23 rfl rfl)
abbrev cX0_value : ByteArray := prog_1_method_32_code
def yX0_value : MethodName := ⟨RX0, "value", "(II)I"⟩
def dkwX0_value_2 : List UInt8 := [28, 182, 0, 231, 45, 182, 0, 208, 153, 0, 7, 3, 167, 0, 5, 18, 234, 96, 172]
abbrev dktX0_value_2 : List UInt8 := dkwX0_value_2 ++ []
def dkwX0_value_1 : List UInt8 := [180, 0, 10, 180, 0, 61, 27, 185, 0, 203, 2, 0, 192, 0, 206, 78, 45, 42, 180, 0, 10, 180, 0, 44]
abbrev dktX0_value_1 : List UInt8 := dkwX0_value_1 ++ dktX0_value_2
def dkwX0_value_0 : List UInt8 := [42, 27, 182, 0, 143, 154, 0, 5, 2, 172, 42, 28, 182, 0, 170, 154, 0, 6, 16, 254, 172, 42]
abbrev dktX0_value_0 : List UInt8 := dkwX0_value_0 ++ dktX0_value_1
theorem dksX0_value_0 : cX0_value.data.toList.drop 0 = dktX0_value_0 := by decide +kernel
theorem dksX0_value_1 : cX0_value.data.toList.drop 22 = dktX0_value_1 := dk_seg dksX0_value_0 22 rfl rfl
theorem dksX0_value_2 : cX0_value.data.toList.drop 46 = dktX0_value_2 := dk_seg dksX0_value_1 24 rfl rfl
theorem dX0_value_0 : decode cX0_value 0 = .ok (.aload_n 0, 1) := dk_42 (dk_at dksX0_value_0 0 rfl rfl)
theorem dX0_value_1 : decode cX0_value 1 = .ok (.iload_n 1, 1) := dk_27 (dk_at dksX0_value_0 1 rfl rfl)
theorem dX0_value_2 : decode cX0_value 2 = .ok (.invokevirtual 143, 3) := dk_182 0 143 (dk_at dksX0_value_0 2 rfl rfl)
theorem dX0_value_5 : decode cX0_value 5 = .ok (.ifCond .ne 5, 3) := dk_154 0 5 (dk_at dksX0_value_0 5 rfl rfl)
theorem dX0_value_8 : decode cX0_value 8 = .ok (.iconst (-1), 1) := dk_2 (dk_at dksX0_value_0 8 rfl rfl)
theorem dX0_value_9 : decode cX0_value 9 = .ok (.ireturn, 1) := dk_172 (dk_at dksX0_value_0 9 rfl rfl)
theorem dX0_value_10 : decode cX0_value 10 = .ok (.aload_n 0, 1) := dk_42 (dk_at dksX0_value_0 10 rfl rfl)
theorem dX0_value_11 : decode cX0_value 11 = .ok (.iload_n 2, 1) := dk_28 (dk_at dksX0_value_0 11 rfl rfl)
theorem dX0_value_12 : decode cX0_value 12 = .ok (.invokevirtual 170, 3) := dk_182 0 170 (dk_at dksX0_value_0 12 rfl rfl)
theorem dX0_value_15 : decode cX0_value 15 = .ok (.ifCond .ne 6, 3) := dk_154 0 6 (dk_at dksX0_value_0 15 rfl rfl)
theorem dX0_value_18 : decode cX0_value 18 = .ok (.bipush (-2), 2) := dk_16 254 (dk_at dksX0_value_0 18 rfl rfl)
theorem dX0_value_20 : decode cX0_value 20 = .ok (.ireturn, 1) := dk_172 (dk_at dksX0_value_0 20 rfl rfl)
theorem dX0_value_21 : decode cX0_value 21 = .ok (.aload_n 0, 1) := dk_42 (dk_at dksX0_value_0 21 rfl rfl)
theorem dX0_value_22 : decode cX0_value 22 = .ok (.getfield 10, 3) := dk_180 0 10 (dk_at dksX0_value_1 0 rfl rfl)
theorem dX0_value_25 : decode cX0_value 25 = .ok (.getfield 61, 3) := dk_180 0 61 (dk_at dksX0_value_1 3 rfl rfl)
theorem dX0_value_28 : decode cX0_value 28 = .ok (.iload_n 1, 1) := dk_27 (dk_at dksX0_value_1 6 rfl rfl)
theorem dX0_value_29 : decode cX0_value 29 = .ok (.invokeinterface 203 2, 5) := by decide +kernel
theorem dX0_value_34 : decode cX0_value 34 = .ok (.checkcast 206, 3) := dk_192 0 206 (dk_at dksX0_value_1 12 rfl rfl)
theorem dX0_value_37 : decode cX0_value 37 = .ok (.astore_n 3, 1) := dk_78 (dk_at dksX0_value_1 15 rfl rfl)
theorem dX0_value_38 : decode cX0_value 38 = .ok (.aload_n 3, 1) := dk_45 (dk_at dksX0_value_1 16 rfl rfl)
theorem dX0_value_39 : decode cX0_value 39 = .ok (.aload_n 0, 1) := dk_42 (dk_at dksX0_value_1 17 rfl rfl)
theorem dX0_value_40 : decode cX0_value 40 = .ok (.getfield 10, 3) := dk_180 0 10 (dk_at dksX0_value_1 18 rfl rfl)
theorem dX0_value_43 : decode cX0_value 43 = .ok (.getfield 44, 3) := dk_180 0 44 (dk_at dksX0_value_1 21 rfl rfl)
theorem dX0_value_46 : decode cX0_value 46 = .ok (.iload_n 2, 1) := dk_28 (dk_at dksX0_value_2 0 rfl rfl)
theorem dX0_value_47 : decode cX0_value 47 = .ok (.invokevirtual 231, 3) := dk_182 0 231 (dk_at dksX0_value_2 1 rfl rfl)
theorem dX0_value_50 : decode cX0_value 50 = .ok (.aload_n 3, 1) := dk_45 (dk_at dksX0_value_2 4 rfl rfl)
theorem dX0_value_51 : decode cX0_value 51 = .ok (.invokevirtual 208, 3) := dk_182 0 208 (dk_at dksX0_value_2 5 rfl rfl)
theorem dX0_value_54 : decode cX0_value 54 = .ok (.ifCond .eq 7, 3) := dk_153 0 7 (dk_at dksX0_value_2 8 rfl rfl)
theorem dX0_value_57 : decode cX0_value 57 = .ok (.iconst 0, 1) := dk_3 (dk_at dksX0_value_2 11 rfl rfl)
theorem dX0_value_58 : decode cX0_value 58 = .ok (.goto 5, 3) := dk_167 0 5 (dk_at dksX0_value_2 12 rfl rfl)
theorem dX0_value_61 : decode cX0_value 61 = .ok (.ldc 234, 2) := dk_18 234 (dk_at dksX0_value_2 15 rfl rfl)
theorem dX0_value_63 : decode cX0_value 63 = .ok (.iadd, 1) := dk_96 (dk_at dksX0_value_2 17 rfl rfl)
theorem dX0_value_64 : decode cX0_value 64 = .ok (.ireturn, 1) := dk_172 (dk_at dksX0_value_2 18 rfl rfl)
abbrev cX0_master : ByteArray := prog_1_method_33_code
def yX0_master : MethodName := ⟨RX0, "master", "(I)I"⟩
def dkwX0_master_5 : List UInt8 := [182, 0, 235, 172, 42, 180, 0, 10, 182, 0, 235, 42, 180, 0, 10, 28, 182, 0, 194, 100, 172]
abbrev dktX0_master_5 : List UInt8 := dkwX0_master_5 ++ []
def dkwX0_master_4 : List UInt8 := [28, 172, 42, 180, 0, 10, 28, 182, 0, 194, 172, 42, 180, 0, 10, 180, 0, 105, 172, 42, 180, 0, 10]
abbrev dktX0_master_4 : List UInt8 := dkwX0_master_4 ++ dktX0_master_5
def dkwX0_master_3 : List UInt8 := [170, 0, 0, 0, 0, 0, 58, 0, 0, 0, 0, 0, 0, 0, 3, 0, 0, 0, 31, 0, 0, 0, 33, 0, 0, 0, 42, 0, 0, 0, 50]
abbrev dktX0_master_3 : List UInt8 := dkwX0_master_3 ++ dktX0_master_4
def dkwX0_master_2 : List UInt8 := [180, 0, 105, 16, 251, 160, 0, 6, 16, 251, 172, 27]
abbrev dktX0_master_2 : List UInt8 := dkwX0_master_2 ++ dktX0_master_3
def dkwX0_master_1 : List UInt8 := [159, 0, 14, 27, 6, 159, 0, 9, 28, 16, 251, 159, 0, 20, 27, 4, 164, 0, 18, 42, 180, 0, 10]
abbrev dktX0_master_1 : List UInt8 := dkwX0_master_1 ++ dktX0_master_2
def dkwX0_master_0 : List UInt8 := [27, 3, 7, 184, 0, 54, 154, 0, 6, 16, 254, 172, 42, 180, 0, 10, 182, 0, 146, 61, 27, 5]
abbrev dktX0_master_0 : List UInt8 := dkwX0_master_0 ++ dktX0_master_1
theorem dksX0_master_0 : cX0_master.data.toList.drop 0 = dktX0_master_0 := by decide +kernel
theorem dksX0_master_1 : cX0_master.data.toList.drop 22 = dktX0_master_1 := dk_seg dksX0_master_0 22 rfl rfl
theorem dksX0_master_2 : cX0_master.data.toList.drop 45 = dktX0_master_2 := dk_seg dksX0_master_1 23 rfl rfl
theorem dksX0_master_3 : cX0_master.data.toList.drop 57 = dktX0_master_3 := dk_seg dksX0_master_2 12 rfl rfl
theorem dksX0_master_4 : cX0_master.data.toList.drop 88 = dktX0_master_4 := dk_seg dksX0_master_3 31 rfl rfl
theorem dksX0_master_5 : cX0_master.data.toList.drop 111 = dktX0_master_5 := dk_seg dksX0_master_4 23 rfl rfl
theorem dX0_master_0 : decode cX0_master 0 = .ok (.iload_n 1, 1) := dk_27 (dk_at dksX0_master_0 0 rfl rfl)
theorem dX0_master_1 : decode cX0_master 1 = .ok (.iconst 0, 1) := dk_3 (dk_at dksX0_master_0 1 rfl rfl)
theorem dX0_master_2 : decode cX0_master 2 = .ok (.iconst 4, 1) := dk_7 (dk_at dksX0_master_0 2 rfl rfl)
theorem dX0_master_3 : decode cX0_master 3 = .ok (.invokestatic 54, 3) := dk_184 0 54 (dk_at dksX0_master_0 3 rfl rfl)
theorem dX0_master_6 : decode cX0_master 6 = .ok (.ifCond .ne 6, 3) := dk_154 0 6 (dk_at dksX0_master_0 6 rfl rfl)
theorem dX0_master_9 : decode cX0_master 9 = .ok (.bipush (-2), 2) := dk_16 254 (dk_at dksX0_master_0 9 rfl rfl)
theorem dX0_master_11 : decode cX0_master 11 = .ok (.ireturn, 1) := dk_172 (dk_at dksX0_master_0 11 rfl rfl)
theorem dX0_master_12 : decode cX0_master 12 = .ok (.aload_n 0, 1) := dk_42 (dk_at dksX0_master_0 12 rfl rfl)
theorem dX0_master_13 : decode cX0_master 13 = .ok (.getfield 10, 3) := dk_180 0 10 (dk_at dksX0_master_0 13 rfl rfl)
theorem dX0_master_16 : decode cX0_master 16 = .ok (.invokevirtual 146, 3) := dk_182 0 146 (dk_at dksX0_master_0 16 rfl rfl)
theorem dX0_master_19 : decode cX0_master 19 = .ok (.istore_n 2, 1) := dk_61 (dk_at dksX0_master_0 19 rfl rfl)
theorem dX0_master_20 : decode cX0_master 20 = .ok (.iload_n 1, 1) := dk_27 (dk_at dksX0_master_0 20 rfl rfl)
theorem dX0_master_21 : decode cX0_master 21 = .ok (.iconst 2, 1) := dk_5 (dk_at dksX0_master_0 21 rfl rfl)
theorem dX0_master_22 : decode cX0_master 22 = .ok (.if_icmp .eq 14, 3) := dk_159 0 14 (dk_at dksX0_master_1 0 rfl rfl)
theorem dX0_master_25 : decode cX0_master 25 = .ok (.iload_n 1, 1) := dk_27 (dk_at dksX0_master_1 3 rfl rfl)
theorem dX0_master_26 : decode cX0_master 26 = .ok (.iconst 3, 1) := dk_6 (dk_at dksX0_master_1 4 rfl rfl)
theorem dX0_master_27 : decode cX0_master 27 = .ok (.if_icmp .eq 9, 3) := dk_159 0 9 (dk_at dksX0_master_1 5 rfl rfl)
theorem dX0_master_30 : decode cX0_master 30 = .ok (.iload_n 2, 1) := dk_28 (dk_at dksX0_master_1 8 rfl rfl)
theorem dX0_master_31 : decode cX0_master 31 = .ok (.bipush (-5), 2) := dk_16 251 (dk_at dksX0_master_1 9 rfl rfl)
theorem dX0_master_33 : decode cX0_master 33 = .ok (.if_icmp .eq 20, 3) := dk_159 0 20 (dk_at dksX0_master_1 11 rfl rfl)
theorem dX0_master_36 : decode cX0_master 36 = .ok (.iload_n 1, 1) := dk_27 (dk_at dksX0_master_1 14 rfl rfl)
theorem dX0_master_37 : decode cX0_master 37 = .ok (.iconst 1, 1) := dk_4 (dk_at dksX0_master_1 15 rfl rfl)
theorem dX0_master_38 : decode cX0_master 38 = .ok (.if_icmp .le 18, 3) := dk_164 0 18 (dk_at dksX0_master_1 16 rfl rfl)
theorem dX0_master_41 : decode cX0_master 41 = .ok (.aload_n 0, 1) := dk_42 (dk_at dksX0_master_1 19 rfl rfl)
theorem dX0_master_42 : decode cX0_master 42 = .ok (.getfield 10, 3) := dk_180 0 10 (dk_at dksX0_master_1 20 rfl rfl)
theorem dX0_master_45 : decode cX0_master 45 = .ok (.getfield 105, 3) := dk_180 0 105 (dk_at dksX0_master_2 0 rfl rfl)
theorem dX0_master_48 : decode cX0_master 48 = .ok (.bipush (-5), 2) := dk_16 251 (dk_at dksX0_master_2 3 rfl rfl)
theorem dX0_master_50 : decode cX0_master 50 = .ok (.if_icmp .ne 6, 3) := dk_160 0 6 (dk_at dksX0_master_2 5 rfl rfl)
theorem dX0_master_53 : decode cX0_master 53 = .ok (.bipush (-5), 2) := dk_16 251 (dk_at dksX0_master_2 8 rfl rfl)
theorem dX0_master_55 : decode cX0_master 55 = .ok (.ireturn, 1) := dk_172 (dk_at dksX0_master_2 10 rfl rfl)
theorem dX0_master_56 : decode cX0_master 56 = .ok (.iload_n 1, 1) := dk_27 (dk_at dksX0_master_2 11 rfl rfl)
theorem dX0_master_57 : decode cX0_master 57 = .ok (.tableswitch 58 0 3 #[31, 33, 42, 50], 31) := by decide +kernel
theorem dX0_master_88 : decode cX0_master 88 = .ok (.iload_n 2, 1) := dk_28 (dk_at dksX0_master_4 0 rfl rfl)
theorem dX0_master_89 : decode cX0_master 89 = .ok (.ireturn, 1) := dk_172 (dk_at dksX0_master_4 1 rfl rfl)
theorem dX0_master_90 : decode cX0_master 90 = .ok (.aload_n 0, 1) := dk_42 (dk_at dksX0_master_4 2 rfl rfl)
theorem dX0_master_91 : decode cX0_master 91 = .ok (.getfield 10, 3) := dk_180 0 10 (dk_at dksX0_master_4 3 rfl rfl)
theorem dX0_master_94 : decode cX0_master 94 = .ok (.iload_n 2, 1) := dk_28 (dk_at dksX0_master_4 6 rfl rfl)
theorem dX0_master_95 : decode cX0_master 95 = .ok (.invokevirtual 194, 3) := dk_182 0 194 (dk_at dksX0_master_4 7 rfl rfl)
theorem dX0_master_98 : decode cX0_master 98 = .ok (.ireturn, 1) := dk_172 (dk_at dksX0_master_4 10 rfl rfl)
theorem dX0_master_99 : decode cX0_master 99 = .ok (.aload_n 0, 1) := dk_42 (dk_at dksX0_master_4 11 rfl rfl)
theorem dX0_master_100 : decode cX0_master 100 = .ok (.getfield 10, 3) := dk_180 0 10 (dk_at dksX0_master_4 12 rfl rfl)
theorem dX0_master_103 : decode cX0_master 103 = .ok (.getfield 105, 3) := dk_180 0 105 (dk_at dksX0_master_4 15 rfl rfl)
theorem dX0_master_106 : decode cX0_master 106 = .ok (.ireturn, 1) := dk_172 (dk_at dksX0_master_4 18 rfl rfl)
theorem dX0_master_107 : decode cX0_master 107 = .ok (.aload_n 0, 1) := dk_42 (dk_at dksX0_master_4 19 rfl rfl)
theorem dX0_master_108 : decode cX0_master 108 = .ok (.getfield 10, 3) := dk_180 0 10 (dk_at dksX0_master_4 20 rfl rfl)
theorem dX0_master_111 : decode cX0_master 111 = .ok (.invokevirtual 235, 3) := dk_182 0 235 (dk_at dksX0_master_5 0 rfl rfl)
theorem dX0_master_114 : decode cX0_master 114 = .ok (.ireturn, 1) := dk_172 (dk_at dksX0_master_5 3 rfl rfl)
theorem dX0_master_115 : decode cX0_master 115 = .ok (.aload_n 0, 1) := dk_42 (dk_at dksX0_master_5 4 rfl rfl)
theorem dX0_master_116 : decode cX0_master 116 = .ok (.getfield 10, 3) := dk_180 0 10 (dk_at dksX0_master_5 5 rfl rfl)
theorem dX0_master_119 : decode cX0_master 119 = .ok (.invokevirtual 235, 3) := dk_182 0 235 (dk_at dksX0_master_5 8 rfl rfl)
theorem dX0_master_122 : decode cX0_master 122 = .ok (.aload_n 0, 1) := dk_42 (dk_at dksX0_master_5 11 rfl rfl)
theorem dX0_master_123 : decode cX0_master 123 = .ok (.getfield 10, 3) := dk_180 0 10 (dk_at dksX0_master_5 12 rfl rfl)
theorem dX0_master_126 : decode cX0_master 126 = .ok (.iload_n 2, 1) := dk_28 (dk_at dksX0_master_5 15 rfl rfl)
theorem dX0_master_127 : decode cX0_master 127 = .ok (.invokevirtual 194, 3) := dk_182 0 194 (dk_at dksX0_master_5 16 rfl rfl)
theorem dX0_master_130 : decode cX0_master 130 = .ok (.isub, 1) := dk_100 (dk_at dksX0_master_5 19 rfl rfl)
theorem dX0_master_131 : decode cX0_master 131 = .ok (.ireturn, 1) := dk_172 (dk_at dksX0_master_5 20 rfl rfl)
abbrev cX0_byAll : ByteArray := prog_1_method_34_code
def yX0_byAll : MethodName := ⟨RX0, "byAll", "(I)I"⟩
def dkwX0_byAll_2 : List UInt8 := [27, 154, 0, 7, 28, 167, 0, 14, 42, 180, 0, 10, 180, 0, 44, 28, 182, 0, 185, 172]
abbrev dktX0_byAll_2 : List UInt8 := dkwX0_byAll_2 ++ []
def dkwX0_byAll_1 : List UInt8 := [42, 186, 0, 238, 0, 0, 182, 0, 222, 172, 42, 180, 0, 10, 182, 0, 241, 61, 28, 16, 251, 159, 0, 7]
abbrev dktX0_byAll_1 : List UInt8 := dkwX0_byAll_1 ++ dktX0_byAll_2
def dkwX0_byAll_0 : List UInt8 := [27, 3, 5, 184, 0, 54, 154, 0, 6, 16, 254, 172, 27, 5, 160, 0, 20, 42, 180, 0, 10, 180, 0, 44]
abbrev dktX0_byAll_0 : List UInt8 := dkwX0_byAll_0 ++ dktX0_byAll_1
theorem dksX0_byAll_0 : cX0_byAll.data.toList.drop 0 = dktX0_byAll_0 := by decide +kernel
theorem dksX0_byAll_1 : cX0_byAll.data.toList.drop 24 = dktX0_byAll_1 := dk_seg dksX0_byAll_0 24 rfl rfl
theorem dksX0_byAll_2 : cX0_byAll.data.toList.drop 48 = dktX0_byAll_2 := dk_seg dksX0_byAll_1 24 rfl rfl
theorem dX0_byAll_0 : decode cX0_byAll 0 = .ok (.iload_n 1, 1) := dk_27 (dk_at dksX0_byAll_0 0 rfl rfl)
theorem dX0_byAll_1 : decode cX0_byAll 1 = .ok (.iconst 0, 1) := dk_3 (dk_at dksX0_byAll_0 1 rfl rfl)
theorem dX0_byAll_2 : decode cX0_byAll 2 = .ok (.iconst 2, 1) := dk_5 (dk_at dksX0_byAll_0 2 rfl rfl)
theorem dX0_byAll_3 : decode cX0_byAll 3 = .ok (.invokestatic 54, 3) := dk_184 0 54 (dk_at dksX0_byAll_0 3 rfl rfl)
theorem dX0_byAll_6 : decode cX0_byAll 6 = .ok (.ifCond .ne 6, 3) := dk_154 0 6 (dk_at dksX0_byAll_0 6 rfl rfl)
theorem dX0_byAll_9 : decode cX0_byAll 9 = .ok (.bipush (-2), 2) := dk_16 254 (dk_at dksX0_byAll_0 9 rfl rfl)
theorem dX0_byAll_11 : decode cX0_byAll 11 = .ok (.ireturn, 1) := dk_172 (dk_at dksX0_byAll_0 11 rfl rfl)
theorem dX0_byAll_12 : decode cX0_byAll 12 = .ok (.iload_n 1, 1) := dk_27 (dk_at dksX0_byAll_0 12 rfl rfl)
theorem dX0_byAll_13 : decode cX0_byAll 13 = .ok (.iconst 2, 1) := dk_5 (dk_at dksX0_byAll_0 13 rfl rfl)
theorem dX0_byAll_14 : decode cX0_byAll 14 = .ok (.if_icmp .ne 20, 3) := dk_160 0 20 (dk_at dksX0_byAll_0 14 rfl rfl)
theorem dX0_byAll_17 : decode cX0_byAll 17 = .ok (.aload_n 0, 1) := dk_42 (dk_at dksX0_byAll_0 17 rfl rfl)
theorem dX0_byAll_18 : decode cX0_byAll 18 = .ok (.getfield 10, 3) := dk_180 0 10 (dk_at dksX0_byAll_0 18 rfl rfl)
theorem dX0_byAll_21 : decode cX0_byAll 21 = .ok (.getfield 44, 3) := dk_180 0 44 (dk_at dksX0_byAll_0 21 rfl rfl)
theorem dX0_byAll_24 : decode cX0_byAll 24 = .ok (.aload_n 0, 1) := dk_42 (dk_at dksX0_byAll_1 0 rfl rfl)
theorem dX0_byAll_25 : decode cX0_byAll 25 = .ok (.invokedynamic 238, 5) := by decide +kernel
theorem dX0_byAll_30 : decode cX0_byAll 30 = .ok (.invokevirtual 222, 3) := dk_182 0 222 (dk_at dksX0_byAll_1 6 rfl rfl)
theorem dX0_byAll_33 : decode cX0_byAll 33 = .ok (.ireturn, 1) := dk_172 (dk_at dksX0_byAll_1 9 rfl rfl)
theorem dX0_byAll_34 : decode cX0_byAll 34 = .ok (.aload_n 0, 1) := dk_42 (dk_at dksX0_byAll_1 10 rfl rfl)
theorem dX0_byAll_35 : decode cX0_byAll 35 = .ok (.getfield 10, 3) := dk_180 0 10 (dk_at dksX0_byAll_1 11 rfl rfl)
theorem dX0_byAll_38 : decode cX0_byAll 38 = .ok (.invokevirtual 241, 3) := dk_182 0 241 (dk_at dksX0_byAll_1 14 rfl rfl)
theorem dX0_byAll_41 : decode cX0_byAll 41 = .ok (.istore_n 2, 1) := dk_61 (dk_at dksX0_byAll_1 17 rfl rfl)
theorem dX0_byAll_42 : decode cX0_byAll 42 = .ok (.iload_n 2, 1) := dk_28 (dk_at dksX0_byAll_1 18 rfl rfl)
theorem dX0_byAll_43 : decode cX0_byAll 43 = .ok (.bipush (-5), 2) := dk_16 251 (dk_at dksX0_byAll_1 19 rfl rfl)
theorem dX0_byAll_45 : decode cX0_byAll 45 = .ok (.if_icmp .eq 7, 3) := dk_159 0 7 (dk_at dksX0_byAll_1 21 rfl rfl)
theorem dX0_byAll_48 : decode cX0_byAll 48 = .ok (.iload_n 1, 1) := dk_27 (dk_at dksX0_byAll_2 0 rfl rfl)
theorem dX0_byAll_49 : decode cX0_byAll 49 = .ok (.ifCond .ne 7, 3) := dk_154 0 7 (dk_at dksX0_byAll_2 1 rfl rfl)
theorem dX0_byAll_52 : decode cX0_byAll 52 = .ok (.iload_n 2, 1) := dk_28 (dk_at dksX0_byAll_2 4 rfl rfl)
theorem dX0_byAll_53 : decode cX0_byAll 53 = .ok (.goto 14, 3) := dk_167 0 14 (dk_at dksX0_byAll_2 5 rfl rfl)
theorem dX0_byAll_56 : decode cX0_byAll 56 = .ok (.aload_n 0, 1) := dk_42 (dk_at dksX0_byAll_2 8 rfl rfl)
theorem dX0_byAll_57 : decode cX0_byAll 57 = .ok (.getfield 10, 3) := dk_180 0 10 (dk_at dksX0_byAll_2 9 rfl rfl)
theorem dX0_byAll_60 : decode cX0_byAll 60 = .ok (.getfield 44, 3) := dk_180 0 44 (dk_at dksX0_byAll_2 12 rfl rfl)
theorem dX0_byAll_63 : decode cX0_byAll 63 = .ok (.iload_n 2, 1) := dk_28 (dk_at dksX0_byAll_2 15 rfl rfl)
theorem dX0_byAll_64 : decode cX0_byAll 64 = .ok (.invokevirtual 185, 3) := dk_182 0 185 (dk_at dksX0_byAll_2 16 rfl rfl)
theorem dX0_byAll_67 : decode cX0_byAll 67 = .ok (.ireturn, 1) := dk_172 (dk_at dksX0_byAll_2 19 rfl rfl)
abbrev cX0_lambda_byAll_2 : ByteArray := prog_1_method_39_code
def yX0_lambda_byAll_2 : MethodName := ⟨RX0, "lambda$byAll$2", "(I)Z"⟩
def dkwX0_lambda_byAll_2_0 : List UInt8 := [42, 180, 0, 10, 180, 0, 44, 27, 182, 0, 255, 172]
abbrev dktX0_lambda_byAll_2_0 : List UInt8 := dkwX0_lambda_byAll_2_0 ++ []
theorem dksX0_lambda_byAll_2_0 : cX0_lambda_byAll_2.data.toList.drop 0 = dktX0_lambda_byAll_2_0 := by decide +kernel
theorem dX0_lambda_byAll_2_0 : decode cX0_lambda_byAll_2 0 = .ok (.aload_n 0, 1) := dk_42 (dk_at dksX0_lambda_byAll_2_0 0 rfl rfl)
theorem dX0_lambda_byAll_2_1 : decode cX0_lambda_byAll_2 1 = .ok (.getfield 10, 3) := dk_180 0 10 (dk_at dksX0_lambda_byAll_2_0 1 rfl rfl)
theorem dX0_lambda_byAll_2_4 : decode cX0_lambda_byAll_2 4 = .ok (.getfield 44, 3) := dk_180 0 44 (dk_at dksX0_lambda_byAll_2_0 4 rfl rfl)
theorem dX0_lambda_byAll_2_7 : decode cX0_lambda_byAll_2 7 = .ok (.iload_n 1, 1) := dk_27 (dk_at dksX0_lambda_byAll_2_0 7 rfl rfl)
theorem dX0_lambda_byAll_2_8 : decode cX0_lambda_byAll_2 8 = .ok (.invokevirtual 255, 3) := dk_182 0 255 (dk_at dksX0_lambda_byAll_2_0 8 rfl rfl)
theorem dX0_lambda_byAll_2_11 : decode cX0_lambda_byAll_2 11 = .ok (.ireturn, 1) := dk_172 (dk_at dksX0_lambda_byAll_2_0 11 rfl rfl)
abbrev cX0_count : ByteArray := prog_1_method_38_code
def yX0_count : MethodName := ⟨RX0, "count", "(I)I"⟩
def dkwX0_count_5 : List UInt8 := [180, 0, 19, 185, 0, 30, 1, 0, 172, 42, 180, 0, 26, 182, 0, 152, 172, 16, 254, 172]
abbrev dktX0_count_5 : List UInt8 := dkwX0_count_5 ++ []
def dkwX0_count_4 : List UInt8 := [180, 0, 61, 185, 0, 30, 1, 0, 172, 42, 182, 0, 249, 172, 42, 180, 0, 10, 180, 0, 252, 172, 42]
abbrev dktX0_count_4 : List UInt8 := dkwX0_count_4 ++ dktX0_count_5
def dkwX0_count_3 : List UInt8 := [182, 0, 244, 172, 42, 180, 0, 10, 180, 0, 44, 180, 0, 102, 172, 42, 182, 0, 246, 172, 42, 180, 0, 10]
abbrev dktX0_count_3 : List UInt8 := dkwX0_count_3 ++ dktX0_count_4
def dkwX0_count_2 : List UInt8 := [42, 180, 0, 10, 180, 0, 44, 180, 0, 48, 172, 42, 180, 0, 10, 180, 0, 44, 180, 0, 58, 172, 42]
abbrev dktX0_count_2 : List UInt8 := dkwX0_count_2 ++ dktX0_count_3
def dkwX0_count_1 : List UInt8 := [170, 0, 0, 0, 0, 0, 142, 0, 0, 0, 0, 0, 0, 0, 9, 0, 0, 0, 55, 0, 0, 0, 66, 0, 0, 0, 77, 0, 0, 0, 82, 0, 0, 0, 93, 0, 0, 0, 98, 0, 0, 0, 111, 0, 0, 0, 116, 0, 0, 0, 124, 0, 0, 0, 134]
abbrev dktX0_count_1 : List UInt8 := dkwX0_count_1 ++ dktX0_count_2
def dkwX0_count_0 : List UInt8 := [27]
abbrev dktX0_count_0 : List UInt8 := dkwX0_count_0 ++ dktX0_count_1
theorem dksX0_count_0 : cX0_count.data.toList.drop 0 = dktX0_count_0 := by decide +kernel
theorem dksX0_count_1 : cX0_count.data.toList.drop 1 = dktX0_count_1 := dk_seg dksX0_count_0 1 rfl rfl
theorem dksX0_count_2 : cX0_count.data.toList.drop 56 = dktX0_count_2 := dk_seg dksX0_count_1 55 rfl rfl
theorem dksX0_count_3 : cX0_count.data.toList.drop 79 = dktX0_count_3 := dk_seg dksX0_count_2 23 rfl rfl
theorem dksX0_count_4 : cX0_count.data.toList.drop 103 = dktX0_count_4 := dk_seg dksX0_count_3 24 rfl rfl
theorem dksX0_count_5 : cX0_count.data.toList.drop 126 = dktX0_count_5 := dk_seg dksX0_count_4 23 rfl rfl
theorem dX0_count_0 : decode cX0_count 0 = .ok (.iload_n 1, 1) := dk_27 (dk_at dksX0_count_0 0 rfl rfl)
theorem dX0_count_1 : decode cX0_count 1 = .ok (.tableswitch 142 0 9 #[55, 66, 77, 82, 93, 98, 111, 116, 124, 134], 55) := by decide +kernel
theorem dX0_count_56 : decode cX0_count 56 = .ok (.aload_n 0, 1) := dk_42 (dk_at dksX0_count_2 0 rfl rfl)
theorem dX0_count_57 : decode cX0_count 57 = .ok (.getfield 10, 3) := dk_180 0 10 (dk_at dksX0_count_2 1 rfl rfl)
theorem dX0_count_60 : decode cX0_count 60 = .ok (.getfield 44, 3) := dk_180 0 44 (dk_at dksX0_count_2 4 rfl rfl)
theorem dX0_count_63 : decode cX0_count 63 = .ok (.getfield 48, 3) := dk_180 0 48 (dk_at dksX0_count_2 7 rfl rfl)
theorem dX0_count_66 : decode cX0_count 66 = .ok (.ireturn, 1) := dk_172 (dk_at dksX0_count_2 10 rfl rfl)
theorem dX0_count_67 : decode cX0_count 67 = .ok (.aload_n 0, 1) := dk_42 (dk_at dksX0_count_2 11 rfl rfl)
theorem dX0_count_68 : decode cX0_count 68 = .ok (.getfield 10, 3) := dk_180 0 10 (dk_at dksX0_count_2 12 rfl rfl)
theorem dX0_count_71 : decode cX0_count 71 = .ok (.getfield 44, 3) := dk_180 0 44 (dk_at dksX0_count_2 15 rfl rfl)
theorem dX0_count_74 : decode cX0_count 74 = .ok (.getfield 58, 3) := dk_180 0 58 (dk_at dksX0_count_2 18 rfl rfl)
theorem dX0_count_77 : decode cX0_count 77 = .ok (.ireturn, 1) := dk_172 (dk_at dksX0_count_2 21 rfl rfl)
theorem dX0_count_78 : decode cX0_count 78 = .ok (.aload_n 0, 1) := dk_42 (dk_at dksX0_count_2 22 rfl rfl)
theorem dX0_count_79 : decode cX0_count 79 = .ok (.invokevirtual 244, 3) := dk_182 0 244 (dk_at dksX0_count_3 0 rfl rfl)
theorem dX0_count_82 : decode cX0_count 82 = .ok (.ireturn, 1) := dk_172 (dk_at dksX0_count_3 3 rfl rfl)
theorem dX0_count_83 : decode cX0_count 83 = .ok (.aload_n 0, 1) := dk_42 (dk_at dksX0_count_3 4 rfl rfl)
theorem dX0_count_84 : decode cX0_count 84 = .ok (.getfield 10, 3) := dk_180 0 10 (dk_at dksX0_count_3 5 rfl rfl)
theorem dX0_count_87 : decode cX0_count 87 = .ok (.getfield 44, 3) := dk_180 0 44 (dk_at dksX0_count_3 8 rfl rfl)
theorem dX0_count_90 : decode cX0_count 90 = .ok (.getfield 102, 3) := dk_180 0 102 (dk_at dksX0_count_3 11 rfl rfl)
theorem dX0_count_93 : decode cX0_count 93 = .ok (.ireturn, 1) := dk_172 (dk_at dksX0_count_3 14 rfl rfl)
theorem dX0_count_94 : decode cX0_count 94 = .ok (.aload_n 0, 1) := dk_42 (dk_at dksX0_count_3 15 rfl rfl)
theorem dX0_count_95 : decode cX0_count 95 = .ok (.invokevirtual 246, 3) := dk_182 0 246 (dk_at dksX0_count_3 16 rfl rfl)
theorem dX0_count_98 : decode cX0_count 98 = .ok (.ireturn, 1) := dk_172 (dk_at dksX0_count_3 19 rfl rfl)
theorem dX0_count_99 : decode cX0_count 99 = .ok (.aload_n 0, 1) := dk_42 (dk_at dksX0_count_3 20 rfl rfl)
theorem dX0_count_100 : decode cX0_count 100 = .ok (.getfield 10, 3) := dk_180 0 10 (dk_at dksX0_count_3 21 rfl rfl)
theorem dX0_count_103 : decode cX0_count 103 = .ok (.getfield 61, 3) := dk_180 0 61 (dk_at dksX0_count_4 0 rfl rfl)
theorem dX0_count_106 : decode cX0_count 106 = .ok (.invokeinterface 30 1, 5) := by decide +kernel
theorem dX0_count_111 : decode cX0_count 111 = .ok (.ireturn, 1) := dk_172 (dk_at dksX0_count_4 8 rfl rfl)
theorem dX0_count_112 : decode cX0_count 112 = .ok (.aload_n 0, 1) := dk_42 (dk_at dksX0_count_4 9 rfl rfl)
theorem dX0_count_113 : decode cX0_count 113 = .ok (.invokevirtual 249, 3) := dk_182 0 249 (dk_at dksX0_count_4 10 rfl rfl)
theorem dX0_count_116 : decode cX0_count 116 = .ok (.ireturn, 1) := dk_172 (dk_at dksX0_count_4 13 rfl rfl)
theorem dX0_count_117 : decode cX0_count 117 = .ok (.aload_n 0, 1) := dk_42 (dk_at dksX0_count_4 14 rfl rfl)
theorem dX0_count_118 : decode cX0_count 118 = .ok (.getfield 10, 3) := dk_180 0 10 (dk_at dksX0_count_4 15 rfl rfl)
theorem dX0_count_121 : decode cX0_count 121 = .ok (.getfield 252, 3) := dk_180 0 252 (dk_at dksX0_count_4 18 rfl rfl)
theorem dX0_count_124 : decode cX0_count 124 = .ok (.ireturn, 1) := dk_172 (dk_at dksX0_count_4 21 rfl rfl)
theorem dX0_count_125 : decode cX0_count 125 = .ok (.aload_n 0, 1) := dk_42 (dk_at dksX0_count_4 22 rfl rfl)
theorem dX0_count_126 : decode cX0_count 126 = .ok (.getfield 19, 3) := dk_180 0 19 (dk_at dksX0_count_5 0 rfl rfl)
theorem dX0_count_129 : decode cX0_count 129 = .ok (.invokeinterface 30 1, 5) := by decide +kernel
theorem dX0_count_134 : decode cX0_count 134 = .ok (.ireturn, 1) := dk_172 (dk_at dksX0_count_5 8 rfl rfl)
theorem dX0_count_135 : decode cX0_count 135 = .ok (.aload_n 0, 1) := dk_42 (dk_at dksX0_count_5 9 rfl rfl)
theorem dX0_count_136 : decode cX0_count 136 = .ok (.getfield 26, 3) := dk_180 0 26 (dk_at dksX0_count_5 10 rfl rfl)
theorem dX0_count_139 : decode cX0_count 139 = .ok (.invokevirtual 152, 3) := dk_182 0 152 (dk_at dksX0_count_5 13 rfl rfl)
theorem dX0_count_142 : decode cX0_count 142 = .ok (.ireturn, 1) := dk_172 (dk_at dksX0_count_5 16 rfl rfl)
theorem dX0_count_143 : decode cX0_count 143 = .ok (.bipush (-2), 2) := dk_16 254 (dk_at dksX0_count_5 17 rfl rfl)
theorem dX0_count_145 : decode cX0_count 145 = .ok (.ireturn, 1) := dk_172 (dk_at dksX0_count_5 19 rfl rfl)
abbrev cX0_routes : ByteArray := prog_1_method_35_code
def yX0_routes : MethodName := ⟨RX0, "routes", "()I"⟩
def dkwX0_routes_3 : List UInt8 := [167, 255, 192, 27, 172]
abbrev dktX0_routes_3 : List UInt8 := dkwX0_routes_3 ++ []
def dkwX0_routes_2 : List UInt8 := [182, 0, 95, 16, 100, 162, 0, 7, 4, 167, 0, 4, 3, 96, 60, 132, 3, 1, 167, 255, 214, 132, 2, 1]
abbrev dktX0_routes_2 : List UInt8 := dkwX0_routes_2 ++ dktX0_routes_3
def dkwX0_routes_1 : List UInt8 := [180, 0, 10, 180, 0, 44, 180, 0, 58, 162, 0, 34, 27, 42, 180, 0, 10, 180, 0, 44, 28, 29]
abbrev dktX0_routes_1 : List UInt8 := dkwX0_routes_1 ++ dktX0_routes_2
def dkwX0_routes_0 : List UInt8 := [3, 60, 3, 61, 28, 42, 180, 0, 10, 180, 0, 44, 180, 0, 48, 162, 0, 56, 3, 62, 29, 42]
abbrev dktX0_routes_0 : List UInt8 := dkwX0_routes_0 ++ dktX0_routes_1
theorem dksX0_routes_0 : cX0_routes.data.toList.drop 0 = dktX0_routes_0 := by decide +kernel
theorem dksX0_routes_1 : cX0_routes.data.toList.drop 22 = dktX0_routes_1 := dk_seg dksX0_routes_0 22 rfl rfl
theorem dksX0_routes_2 : cX0_routes.data.toList.drop 44 = dktX0_routes_2 := dk_seg dksX0_routes_1 22 rfl rfl
theorem dksX0_routes_3 : cX0_routes.data.toList.drop 68 = dktX0_routes_3 := dk_seg dksX0_routes_2 24 rfl rfl
theorem dX0_routes_0 : decode cX0_routes 0 = .ok (.iconst 0, 1) := dk_3 (dk_at dksX0_routes_0 0 rfl rfl)
theorem dX0_routes_1 : decode cX0_routes 1 = .ok (.istore_n 1, 1) := dk_60 (dk_at dksX0_routes_0 1 rfl rfl)
theorem dX0_routes_2 : decode cX0_routes 2 = .ok (.iconst 0, 1) := dk_3 (dk_at dksX0_routes_0 2 rfl rfl)
theorem dX0_routes_3 : decode cX0_routes 3 = .ok (.istore_n 2, 1) := dk_61 (dk_at dksX0_routes_0 3 rfl rfl)
theorem dX0_routes_4 : decode cX0_routes 4 = .ok (.iload_n 2, 1) := dk_28 (dk_at dksX0_routes_0 4 rfl rfl)
theorem dX0_routes_5 : decode cX0_routes 5 = .ok (.aload_n 0, 1) := dk_42 (dk_at dksX0_routes_0 5 rfl rfl)
theorem dX0_routes_6 : decode cX0_routes 6 = .ok (.getfield 10, 3) := dk_180 0 10 (dk_at dksX0_routes_0 6 rfl rfl)
theorem dX0_routes_9 : decode cX0_routes 9 = .ok (.getfield 44, 3) := dk_180 0 44 (dk_at dksX0_routes_0 9 rfl rfl)
theorem dX0_routes_12 : decode cX0_routes 12 = .ok (.getfield 48, 3) := dk_180 0 48 (dk_at dksX0_routes_0 12 rfl rfl)
theorem dX0_routes_15 : decode cX0_routes 15 = .ok (.if_icmp .ge 56, 3) := dk_162 0 56 (dk_at dksX0_routes_0 15 rfl rfl)
theorem dX0_routes_18 : decode cX0_routes 18 = .ok (.iconst 0, 1) := dk_3 (dk_at dksX0_routes_0 18 rfl rfl)
theorem dX0_routes_19 : decode cX0_routes 19 = .ok (.istore_n 3, 1) := dk_62 (dk_at dksX0_routes_0 19 rfl rfl)
theorem dX0_routes_20 : decode cX0_routes 20 = .ok (.iload_n 3, 1) := dk_29 (dk_at dksX0_routes_0 20 rfl rfl)
theorem dX0_routes_21 : decode cX0_routes 21 = .ok (.aload_n 0, 1) := dk_42 (dk_at dksX0_routes_0 21 rfl rfl)
theorem dX0_routes_22 : decode cX0_routes 22 = .ok (.getfield 10, 3) := dk_180 0 10 (dk_at dksX0_routes_1 0 rfl rfl)
theorem dX0_routes_25 : decode cX0_routes 25 = .ok (.getfield 44, 3) := dk_180 0 44 (dk_at dksX0_routes_1 3 rfl rfl)
theorem dX0_routes_28 : decode cX0_routes 28 = .ok (.getfield 58, 3) := dk_180 0 58 (dk_at dksX0_routes_1 6 rfl rfl)
theorem dX0_routes_31 : decode cX0_routes 31 = .ok (.if_icmp .ge 34, 3) := dk_162 0 34 (dk_at dksX0_routes_1 9 rfl rfl)
theorem dX0_routes_34 : decode cX0_routes 34 = .ok (.iload_n 1, 1) := dk_27 (dk_at dksX0_routes_1 12 rfl rfl)
theorem dX0_routes_35 : decode cX0_routes 35 = .ok (.aload_n 0, 1) := dk_42 (dk_at dksX0_routes_1 13 rfl rfl)
theorem dX0_routes_36 : decode cX0_routes 36 = .ok (.getfield 10, 3) := dk_180 0 10 (dk_at dksX0_routes_1 14 rfl rfl)
theorem dX0_routes_39 : decode cX0_routes 39 = .ok (.getfield 44, 3) := dk_180 0 44 (dk_at dksX0_routes_1 17 rfl rfl)
theorem dX0_routes_42 : decode cX0_routes 42 = .ok (.iload_n 2, 1) := dk_28 (dk_at dksX0_routes_1 20 rfl rfl)
theorem dX0_routes_43 : decode cX0_routes 43 = .ok (.iload_n 3, 1) := dk_29 (dk_at dksX0_routes_1 21 rfl rfl)
theorem dX0_routes_44 : decode cX0_routes 44 = .ok (.invokevirtual 95, 3) := dk_182 0 95 (dk_at dksX0_routes_2 0 rfl rfl)
theorem dX0_routes_47 : decode cX0_routes 47 = .ok (.bipush 100, 2) := dk_16 100 (dk_at dksX0_routes_2 3 rfl rfl)
theorem dX0_routes_49 : decode cX0_routes 49 = .ok (.if_icmp .ge 7, 3) := dk_162 0 7 (dk_at dksX0_routes_2 5 rfl rfl)
theorem dX0_routes_52 : decode cX0_routes 52 = .ok (.iconst 1, 1) := dk_4 (dk_at dksX0_routes_2 8 rfl rfl)
theorem dX0_routes_53 : decode cX0_routes 53 = .ok (.goto 4, 3) := dk_167 0 4 (dk_at dksX0_routes_2 9 rfl rfl)
theorem dX0_routes_56 : decode cX0_routes 56 = .ok (.iconst 0, 1) := dk_3 (dk_at dksX0_routes_2 12 rfl rfl)
theorem dX0_routes_57 : decode cX0_routes 57 = .ok (.iadd, 1) := dk_96 (dk_at dksX0_routes_2 13 rfl rfl)
theorem dX0_routes_58 : decode cX0_routes 58 = .ok (.istore_n 1, 1) := dk_60 (dk_at dksX0_routes_2 14 rfl rfl)
theorem dX0_routes_59 : decode cX0_routes 59 = .ok (.iinc 3 1, 3) := dk_132 3 1 (dk_at dksX0_routes_2 15 rfl rfl)
theorem dX0_routes_62 : decode cX0_routes 62 = .ok (.goto (-42), 3) := dk_167 255 214 (dk_at dksX0_routes_2 18 rfl rfl)
theorem dX0_routes_65 : decode cX0_routes 65 = .ok (.iinc 2 1, 3) := dk_132 2 1 (dk_at dksX0_routes_2 21 rfl rfl)
theorem dX0_routes_68 : decode cX0_routes 68 = .ok (.goto (-64), 3) := dk_167 255 192 (dk_at dksX0_routes_3 0 rfl rfl)
theorem dX0_routes_71 : decode cX0_routes 71 = .ok (.iload_n 1, 1) := dk_27 (dk_at dksX0_routes_3 3 rfl rfl)
theorem dX0_routes_72 : decode cX0_routes 72 = .ok (.ireturn, 1) := dk_172 (dk_at dksX0_routes_3 4 rfl rfl)
abbrev cX0_pairs : ByteArray := prog_1_method_36_code
def yX0_pairs : MethodName := ⟨RX0, "pairs", "()I"⟩
def dkwX0_pairs_1 : List UInt8 := [180, 0, 44, 180, 0, 108, 28, 46, 184, 0, 115, 96, 60, 132, 2, 1, 167, 255, 221, 27, 5, 108, 172]
abbrev dktX0_pairs_1 : List UInt8 := dkwX0_pairs_1 ++ []
def dkwX0_pairs_0 : List UInt8 := [3, 60, 3, 61, 28, 42, 180, 0, 10, 180, 0, 44, 180, 0, 48, 162, 0, 27, 27, 42, 180, 0, 10]
abbrev dktX0_pairs_0 : List UInt8 := dkwX0_pairs_0 ++ dktX0_pairs_1
theorem dksX0_pairs_0 : cX0_pairs.data.toList.drop 0 = dktX0_pairs_0 := by decide +kernel
theorem dksX0_pairs_1 : cX0_pairs.data.toList.drop 23 = dktX0_pairs_1 := dk_seg dksX0_pairs_0 23 rfl rfl
theorem dX0_pairs_0 : decode cX0_pairs 0 = .ok (.iconst 0, 1) := dk_3 (dk_at dksX0_pairs_0 0 rfl rfl)
theorem dX0_pairs_1 : decode cX0_pairs 1 = .ok (.istore_n 1, 1) := dk_60 (dk_at dksX0_pairs_0 1 rfl rfl)
theorem dX0_pairs_2 : decode cX0_pairs 2 = .ok (.iconst 0, 1) := dk_3 (dk_at dksX0_pairs_0 2 rfl rfl)
theorem dX0_pairs_3 : decode cX0_pairs 3 = .ok (.istore_n 2, 1) := dk_61 (dk_at dksX0_pairs_0 3 rfl rfl)
theorem dX0_pairs_4 : decode cX0_pairs 4 = .ok (.iload_n 2, 1) := dk_28 (dk_at dksX0_pairs_0 4 rfl rfl)
theorem dX0_pairs_5 : decode cX0_pairs 5 = .ok (.aload_n 0, 1) := dk_42 (dk_at dksX0_pairs_0 5 rfl rfl)
theorem dX0_pairs_6 : decode cX0_pairs 6 = .ok (.getfield 10, 3) := dk_180 0 10 (dk_at dksX0_pairs_0 6 rfl rfl)
theorem dX0_pairs_9 : decode cX0_pairs 9 = .ok (.getfield 44, 3) := dk_180 0 44 (dk_at dksX0_pairs_0 9 rfl rfl)
theorem dX0_pairs_12 : decode cX0_pairs 12 = .ok (.getfield 48, 3) := dk_180 0 48 (dk_at dksX0_pairs_0 12 rfl rfl)
theorem dX0_pairs_15 : decode cX0_pairs 15 = .ok (.if_icmp .ge 27, 3) := dk_162 0 27 (dk_at dksX0_pairs_0 15 rfl rfl)
theorem dX0_pairs_18 : decode cX0_pairs 18 = .ok (.iload_n 1, 1) := dk_27 (dk_at dksX0_pairs_0 18 rfl rfl)
theorem dX0_pairs_19 : decode cX0_pairs 19 = .ok (.aload_n 0, 1) := dk_42 (dk_at dksX0_pairs_0 19 rfl rfl)
theorem dX0_pairs_20 : decode cX0_pairs 20 = .ok (.getfield 10, 3) := dk_180 0 10 (dk_at dksX0_pairs_0 20 rfl rfl)
theorem dX0_pairs_23 : decode cX0_pairs 23 = .ok (.getfield 44, 3) := dk_180 0 44 (dk_at dksX0_pairs_1 0 rfl rfl)
theorem dX0_pairs_26 : decode cX0_pairs 26 = .ok (.getfield 108, 3) := dk_180 0 108 (dk_at dksX0_pairs_1 3 rfl rfl)
theorem dX0_pairs_29 : decode cX0_pairs 29 = .ok (.iload_n 2, 1) := dk_28 (dk_at dksX0_pairs_1 6 rfl rfl)
theorem dX0_pairs_30 : decode cX0_pairs 30 = .ok (.iaload, 1) := dk_46 (dk_at dksX0_pairs_1 7 rfl rfl)
theorem dX0_pairs_31 : decode cX0_pairs 31 = .ok (.invokestatic 115, 3) := dk_184 0 115 (dk_at dksX0_pairs_1 8 rfl rfl)
theorem dX0_pairs_34 : decode cX0_pairs 34 = .ok (.iadd, 1) := dk_96 (dk_at dksX0_pairs_1 11 rfl rfl)
theorem dX0_pairs_35 : decode cX0_pairs 35 = .ok (.istore_n 1, 1) := dk_60 (dk_at dksX0_pairs_1 12 rfl rfl)
theorem dX0_pairs_36 : decode cX0_pairs 36 = .ok (.iinc 2 1, 3) := dk_132 2 1 (dk_at dksX0_pairs_1 13 rfl rfl)
theorem dX0_pairs_39 : decode cX0_pairs 39 = .ok (.goto (-35), 3) := dk_167 255 221 (dk_at dksX0_pairs_1 16 rfl rfl)
theorem dX0_pairs_42 : decode cX0_pairs 42 = .ok (.iload_n 1, 1) := dk_27 (dk_at dksX0_pairs_1 19 rfl rfl)
theorem dX0_pairs_43 : decode cX0_pairs 43 = .ok (.iconst 2, 1) := dk_5 (dk_at dksX0_pairs_1 20 rfl rfl)
theorem dX0_pairs_44 : decode cX0_pairs 44 = .ok (.idiv, 1) := dk_108 (dk_at dksX0_pairs_1 21 rfl rfl)
theorem dX0_pairs_45 : decode cX0_pairs 45 = .ok (.ireturn, 1) := dk_172 (dk_at dksX0_pairs_1 22 rfl rfl)
abbrev cX0_rays : ByteArray := prog_1_method_37_code
def yX0_rays : MethodName := ⟨RX0, "rays", "()I"⟩
def dkwX0_rays_2 : List UInt8 := [167, 0, 4, 3, 96, 60, 132, 2, 1, 167, 255, 207, 27, 172]
abbrev dktX0_rays_2 : List UInt8 := dkwX0_rays_2 ++ []
def dkwX0_rays_1 : List UInt8 := [180, 0, 10, 180, 0, 61, 28, 185, 0, 203, 2, 0, 192, 0, 206, 182, 0, 208, 153, 0, 7, 4]
abbrev dktX0_rays_1 : List UInt8 := dkwX0_rays_1 ++ dktX0_rays_2
def dkwX0_rays_0 : List UInt8 := [3, 60, 3, 61, 28, 42, 180, 0, 10, 180, 0, 61, 185, 0, 30, 1, 0, 162, 0, 39, 27, 42]
abbrev dktX0_rays_0 : List UInt8 := dkwX0_rays_0 ++ dktX0_rays_1
theorem dksX0_rays_0 : cX0_rays.data.toList.drop 0 = dktX0_rays_0 := by decide +kernel
theorem dksX0_rays_1 : cX0_rays.data.toList.drop 22 = dktX0_rays_1 := dk_seg dksX0_rays_0 22 rfl rfl
theorem dksX0_rays_2 : cX0_rays.data.toList.drop 44 = dktX0_rays_2 := dk_seg dksX0_rays_1 22 rfl rfl
theorem dX0_rays_0 : decode cX0_rays 0 = .ok (.iconst 0, 1) := dk_3 (dk_at dksX0_rays_0 0 rfl rfl)
theorem dX0_rays_1 : decode cX0_rays 1 = .ok (.istore_n 1, 1) := dk_60 (dk_at dksX0_rays_0 1 rfl rfl)
theorem dX0_rays_2 : decode cX0_rays 2 = .ok (.iconst 0, 1) := dk_3 (dk_at dksX0_rays_0 2 rfl rfl)
theorem dX0_rays_3 : decode cX0_rays 3 = .ok (.istore_n 2, 1) := dk_61 (dk_at dksX0_rays_0 3 rfl rfl)
theorem dX0_rays_4 : decode cX0_rays 4 = .ok (.iload_n 2, 1) := dk_28 (dk_at dksX0_rays_0 4 rfl rfl)
theorem dX0_rays_5 : decode cX0_rays 5 = .ok (.aload_n 0, 1) := dk_42 (dk_at dksX0_rays_0 5 rfl rfl)
theorem dX0_rays_6 : decode cX0_rays 6 = .ok (.getfield 10, 3) := dk_180 0 10 (dk_at dksX0_rays_0 6 rfl rfl)
theorem dX0_rays_9 : decode cX0_rays 9 = .ok (.getfield 61, 3) := dk_180 0 61 (dk_at dksX0_rays_0 9 rfl rfl)
theorem dX0_rays_12 : decode cX0_rays 12 = .ok (.invokeinterface 30 1, 5) := by decide +kernel
theorem dX0_rays_17 : decode cX0_rays 17 = .ok (.if_icmp .ge 39, 3) := dk_162 0 39 (dk_at dksX0_rays_0 17 rfl rfl)
theorem dX0_rays_20 : decode cX0_rays 20 = .ok (.iload_n 1, 1) := dk_27 (dk_at dksX0_rays_0 20 rfl rfl)
theorem dX0_rays_21 : decode cX0_rays 21 = .ok (.aload_n 0, 1) := dk_42 (dk_at dksX0_rays_0 21 rfl rfl)
theorem dX0_rays_22 : decode cX0_rays 22 = .ok (.getfield 10, 3) := dk_180 0 10 (dk_at dksX0_rays_1 0 rfl rfl)
theorem dX0_rays_25 : decode cX0_rays 25 = .ok (.getfield 61, 3) := dk_180 0 61 (dk_at dksX0_rays_1 3 rfl rfl)
theorem dX0_rays_28 : decode cX0_rays 28 = .ok (.iload_n 2, 1) := dk_28 (dk_at dksX0_rays_1 6 rfl rfl)
theorem dX0_rays_29 : decode cX0_rays 29 = .ok (.invokeinterface 203 2, 5) := by decide +kernel
theorem dX0_rays_34 : decode cX0_rays 34 = .ok (.checkcast 206, 3) := dk_192 0 206 (dk_at dksX0_rays_1 12 rfl rfl)
theorem dX0_rays_37 : decode cX0_rays 37 = .ok (.invokevirtual 208, 3) := dk_182 0 208 (dk_at dksX0_rays_1 15 rfl rfl)
theorem dX0_rays_40 : decode cX0_rays 40 = .ok (.ifCond .eq 7, 3) := dk_153 0 7 (dk_at dksX0_rays_1 18 rfl rfl)
theorem dX0_rays_43 : decode cX0_rays 43 = .ok (.iconst 1, 1) := dk_4 (dk_at dksX0_rays_1 21 rfl rfl)
theorem dX0_rays_44 : decode cX0_rays 44 = .ok (.goto 4, 3) := dk_167 0 4 (dk_at dksX0_rays_2 0 rfl rfl)
theorem dX0_rays_47 : decode cX0_rays 47 = .ok (.iconst 0, 1) := dk_3 (dk_at dksX0_rays_2 3 rfl rfl)
theorem dX0_rays_48 : decode cX0_rays 48 = .ok (.iadd, 1) := dk_96 (dk_at dksX0_rays_2 4 rfl rfl)
theorem dX0_rays_49 : decode cX0_rays 49 = .ok (.istore_n 1, 1) := dk_60 (dk_at dksX0_rays_2 5 rfl rfl)
theorem dX0_rays_50 : decode cX0_rays 50 = .ok (.iinc 2 1, 3) := dk_132 2 1 (dk_at dksX0_rays_2 6 rfl rfl)
theorem dX0_rays_53 : decode cX0_rays 53 = .ok (.goto (-49), 3) := dk_167 255 207 (dk_at dksX0_rays_2 9 rfl rfl)
theorem dX0_rays_56 : decode cX0_rays 56 = .ok (.iload_n 1, 1) := dk_27 (dk_at dksX0_rays_2 12 rfl rfl)
theorem dX0_rays_57 : decode cX0_rays 57 = .ok (.ireturn, 1) := dk_172 (dk_at dksX0_rays_2 13 rfl rfl)
theorem q59 : (Jvm.Cond.initialized "SiteCuts") ∈ lw_all := lw_g (lw_at lw_m1 1 rfl) rfl
theorem q89 : (Jvm.Cond.instantiable "SiteCuts" (4 : Nat)) ∈ lw_all := lw_g (lw_at lw_m1 31 rfl) rfl
theorem q91 : (Jvm.Cond.instanceMethod ({ cls := "SiteCuts", name := "<init>", desc := "()V" } : Jvm.MethodName)) ∈ lw_all := lw_g (lw_at lw_m1 33 rfl) rfl
theorem q92 : (Jvm.Cond.code ({ cls := "SiteCuts", name := "<init>", desc := "()V" } : Jvm.MethodName) prog_1_method_3_code (1 : Nat) (Option.none : Option Jvm.ClassFile.FieldType)) ∈ lw_all := lw_g (lw_at lw_m1 34 rfl) rfl
theorem q93 : (Jvm.Cond.methodLink "SiteCuts" (1 : Nat) ({ cls := "java/lang/Object", name := "<init>", desc := "()V" } : Jvm.MethodName)) ∈ lw_all := lw_g (lw_at lw_m1 35 rfl) rfl
theorem q96 : (Jvm.Cond.classLink "SiteCuts" (7 : Nat) "SiteCuts$State") ∈ lw_all := lw_g (lw_at lw_m1 38 rfl) rfl
theorem q98 : (Jvm.Cond.methodLinkNest "SiteCuts" (9 : Nat) ({ cls := "SiteCuts$State", name := "<init>", desc := "()V" } : Jvm.MethodName) "SiteCuts") ∈ lw_tbl := lw_at lw_m1 40 rfl
theorem q109 : (Jvm.Cond.fieldLinkNest "SiteCuts" (77 : Nat) "SiteCuts$Land" "prices" "[I" "SiteCuts") ∈ lw_tbl := lw_at lw_m1 51 rfl
theorem q112 : (Jvm.Cond.fieldLinkNest "SiteCuts" (108 : Nat) "SiteCuts$Land" "excluded" "[I" "SiteCuts") ∈ lw_tbl := lw_at lw_m1 54 rfl
theorem q115 : (Jvm.Cond.fieldLinkNest "SiteCuts" (85 : Nat) "SiteCuts$Land" "demands" "[I" "SiteCuts") ∈ lw_tbl := lw_at lw_m1 57 rfl
theorem q117 : (Jvm.Cond.fieldLinkNest "SiteCuts" (99 : Nat) "SiteCuts$Land" "routes" "[I" "SiteCuts") ∈ lw_tbl := lw_at lw_m1 59 rfl
theorem q120 : (Jvm.Cond.fieldLinkNest "SiteCuts" (48 : Nat) "SiteCuts$Land" "sites" "I" "SiteCuts") ∈ lw_tbl := lw_at lw_m1 62 rfl
theorem q124 : (Jvm.Cond.fieldLinkNest "SiteCuts" (58 : Nat) "SiteCuts$Land" "customers" "I" "SiteCuts") ∈ lw_tbl := lw_at lw_m1 66 rfl
theorem q128 : (Jvm.Cond.fieldLinkNest "SiteCuts" (102 : Nat) "SiteCuts$Land" "most" "I" "SiteCuts") ∈ lw_tbl := lw_at lw_m1 70 rfl
theorem q172 : (Jvm.Cond.fieldLinkNest "SiteCuts" (44 : Nat) "SiteCuts$State" "land" "LSiteCuts$Land;" "SiteCuts") ∈ lw_tbl := lw_at lw_m1 114 rfl
theorem q174 : (Jvm.Cond.fieldLinkNest "SiteCuts" (61 : Nat) "SiteCuts$State" "cuts" "Ljava/util/List;" "SiteCuts") ∈ lw_tbl := lw_at lw_m1 116 rfl
theorem q176 : (Jvm.Cond.fieldLinkNest "SiteCuts" (105 : Nat) "SiteCuts$State" "best" "I" "SiteCuts") ∈ lw_tbl := lw_at lw_m1 118 rfl
theorem q178 : (Jvm.Cond.fieldLinkNest "SiteCuts" (252 : Nat) "SiteCuts$State" "steps" "I" "SiteCuts") ∈ lw_tbl := lw_at lw_m1 120 rfl
theorem q188 : (Jvm.Cond.classLink "SiteCuts" (16 : Nat) "java/util/ArrayList") ∈ lw_all := lw_g (lw_at lw_m1 130 rfl) rfl
theorem q189 : (Jvm.Cond.methodLink "SiteCuts" (18 : Nat) ({ cls := "java/util/ArrayList", name := "<init>", desc := "()V" } : Jvm.MethodName)) ∈ lw_all := lw_g (lw_at lw_m1 131 rfl) rfl
theorem q190 : (Jvm.Cond.classLink "SiteCuts" (23 : Nat) "java/lang/StringBuilder") ∈ lw_all := lw_g (lw_at lw_m1 132 rfl) rfl
theorem q192 : (Jvm.Cond.methodLink "SiteCuts" (25 : Nat) ({ cls := "java/lang/StringBuilder", name := "<init>", desc := "()V" } : Jvm.MethodName)) ∈ lw_all := lw_g (lw_at lw_m1 134 rfl) rfl
theorem q222 : (Jvm.Cond.fieldLink "SiteCuts" (10 : Nat) "SiteCuts" "state" "LSiteCuts$State;") ∈ lw_all := lw_g (lw_at lw_m1 164 rfl) rfl
theorem q223 : (Jvm.Cond.fieldLink "SiteCuts" (167 : Nat) "SiteCuts" "snapshot" "LSiteCuts$State;") ∈ lw_all := lw_g (lw_at lw_m1 165 rfl) rfl
theorem q224 : (Jvm.Cond.fieldLink "SiteCuts" (19 : Nat) "SiteCuts" "history" "Ljava/util/List;") ∈ lw_all := lw_g (lw_at lw_m1 166 rfl) rfl
theorem q225 : (Jvm.Cond.fieldLink "SiteCuts" (26 : Nat) "SiteCuts" "text" "Ljava/lang/StringBuilder;") ∈ lw_all := lw_g (lw_at lw_m1 167 rfl) rfl
theorem q226 : (Jvm.Cond.lays "SiteCuts" "SiteCuts" "state" "LSiteCuts$State;") ∈ lw_all := lw_g (lw_at lw_m1 168 rfl) rfl
theorem q227 : (Jvm.Cond.soleField "SiteCuts" "state") ∈ lw_all := lw_g (lw_at lw_m1 169 rfl) rfl
theorem q228 : (Jvm.Cond.lays "SiteCuts" "SiteCuts" "snapshot" "LSiteCuts$State;") ∈ lw_all := lw_g (lw_at lw_m1 170 rfl) rfl
theorem q229 : (Jvm.Cond.soleField "SiteCuts" "snapshot") ∈ lw_all := lw_g (lw_at lw_m1 171 rfl) rfl
theorem q230 : (Jvm.Cond.laysFinal "SiteCuts" "SiteCuts" "history" "Ljava/util/List;") ∈ lw_all := lw_g (lw_at lw_m1 172 rfl) rfl
theorem q231 : (Jvm.Cond.soleField "SiteCuts" "history") ∈ lw_all := lw_g (lw_at lw_m1 173 rfl) rfl
theorem q232 : (Jvm.Cond.laysFinal "SiteCuts" "SiteCuts" "text" "Ljava/lang/StringBuilder;") ∈ lw_all := lw_g (lw_at lw_m1 174 rfl) rfl
theorem q233 : (Jvm.Cond.soleField "SiteCuts" "text") ∈ lw_all := lw_g (lw_at lw_m1 175 rfl) rfl
theorem q234 : (Jvm.Cond.superclass "SiteCuts" "java/lang/Object") ∈ lw_all := lw_g (lw_at lw_m1 176 rfl) rfl
theorem q236 : (Jvm.Cond.instanceMethod ({ cls := "SiteCuts", name := "addSite", desc := "(I)I" } : Jvm.MethodName)) ∈ lw_all := lw_g (lw_at lw_m1 178 rfl) rfl
theorem q237 : (Jvm.Cond.selects "SiteCuts" ({ cls := "SiteCuts", name := "addSite", desc := "(I)I" } : Jvm.MethodName) ({ cls := "SiteCuts", name := "addSite", desc := "(I)I" } : Jvm.MethodName)) ∈ lw_all := lw_g (lw_at lw_m1 179 rfl) rfl
theorem q238 : (Jvm.Cond.code ({ cls := "SiteCuts", name := "addSite", desc := "(I)I" } : Jvm.MethodName) prog_1_method_10_code (4 : Nat) (Option.some Jvm.ClassFile.FieldType.int)) ∈ lw_all := lw_g (lw_at lw_m1 180 rfl) rfl
theorem q239 : (Jvm.Cond.methodLink "SiteCuts" (54 : Nat) ({ cls := "SiteCuts", name := "inRange", desc := "(III)Z" } : Jvm.MethodName)) ∈ lw_all := lw_g (lw_at lw_m1 181 rfl) rfl
theorem q240 : (Jvm.Cond.static ({ cls := "SiteCuts", name := "inRange", desc := "(III)Z" } : Jvm.MethodName)) ∈ lw_all := lw_g (lw_at lw_m1 182 rfl) rfl
theorem q241 : (Jvm.Cond.code ({ cls := "SiteCuts", name := "inRange", desc := "(III)Z" } : Jvm.MethodName) prog_1_method_1_code (3 : Nat) (Option.some Jvm.ClassFile.FieldType.boolean)) ∈ lw_all := lw_g (lw_at lw_m1 183 rfl) rfl
theorem q242 : (Jvm.Cond.methodLink "SiteCuts" (74 : Nat) ({ cls := "SiteCuts", name := "fresh", desc := "()LSiteCuts$State;" } : Jvm.MethodName)) ∈ lw_all := lw_g (lw_at lw_m1 184 rfl) rfl
theorem q243 : (Jvm.Cond.privateMethod ({ cls := "SiteCuts", name := "fresh", desc := "()LSiteCuts$State;" } : Jvm.MethodName)) ∈ lw_tbl := lw_at lw_m1 185 rfl
theorem q244 : (Jvm.Cond.instanceMethod ({ cls := "SiteCuts", name := "fresh", desc := "()LSiteCuts$State;" } : Jvm.MethodName)) ∈ lw_all := lw_g (lw_at lw_m1 186 rfl) rfl
theorem q245 : (Jvm.Cond.code ({ cls := "SiteCuts", name := "fresh", desc := "()LSiteCuts$State;" } : Jvm.MethodName) prog_1_method_9_code (2 : Nat) (Option.some (Jvm.ClassFile.FieldType.object "SiteCuts$State"))) ∈ lw_all := lw_g (lw_at lw_m1 187 rfl) rfl
theorem q246 : (Jvm.Cond.methodLink "SiteCuts" (67 : Nat) ({ cls := "SiteCuts$State", name := "copy", desc := "()LSiteCuts$State;" } : Jvm.MethodName)) ∈ lw_all := lw_g (lw_at lw_m1 188 rfl) rfl
theorem q287 : (Jvm.Cond.selects "SiteCuts" ({ cls := "java/lang/Object", name := "getClass", desc := "()Ljava/lang/Class;" } : Jvm.MethodName) ({ cls := "java/lang/Object", name := "getClass", desc := "()Ljava/lang/Class;" } : Jvm.MethodName)) ∈ lw_all := lw_g (lw_at lw_m1 229 rfl) rfl
theorem q330 : (Jvm.Cond.methodLink "SiteCuts" (71 : Nat) ({ cls := "SiteCuts$State", name := "forget", desc := "()V" } : Jvm.MethodName)) ∈ lw_all := lw_g (lw_at lw_m2 32 rfl) rfl
theorem q343 : (Jvm.Cond.methodLink "SiteCuts" (81 : Nat) ({ cls := "SiteCuts", name := "accept", desc := "(LSiteCuts$State;I)I" } : Jvm.MethodName)) ∈ lw_all := lw_g (lw_at lw_m2 45 rfl) rfl
theorem q344 : (Jvm.Cond.privateMethod ({ cls := "SiteCuts", name := "accept", desc := "(LSiteCuts$State;I)I" } : Jvm.MethodName)) ∈ lw_tbl := lw_at lw_m2 46 rfl
theorem q345 : (Jvm.Cond.instanceMethod ({ cls := "SiteCuts", name := "accept", desc := "(LSiteCuts$State;I)I" } : Jvm.MethodName)) ∈ lw_all := lw_g (lw_at lw_m2 47 rfl) rfl
theorem q346 : (Jvm.Cond.code ({ cls := "SiteCuts", name := "accept", desc := "(LSiteCuts$State;I)I" } : Jvm.MethodName) prog_1_method_4_code (3 : Nat) (Option.some Jvm.ClassFile.FieldType.int)) ∈ lw_all := lw_g (lw_at lw_m2 48 rfl) rfl
theorem q347 : (Jvm.Cond.interfaceEntry "SiteCuts" (30 : Nat)) ∈ lw_tbl := lw_at lw_m2 49 rfl
theorem q348 : (Jvm.Cond.methodLink "SiteCuts" (30 : Nat) ({ cls := "java/util/List", name := "size", desc := "()I" } : Jvm.MethodName)) ∈ lw_all := lw_g (lw_at lw_m2 50 rfl) rfl
theorem q356 : (Jvm.Cond.interfaceEntry "SiteCuts" (36 : Nat)) ∈ lw_tbl := lw_at lw_m2 58 rfl
theorem q357 : (Jvm.Cond.methodLink "SiteCuts" (36 : Nat) ({ cls := "java/util/List", name := "remove", desc := "(I)Ljava/lang/Object;" } : Jvm.MethodName)) ∈ lw_all := lw_g (lw_at lw_m2 59 rfl) rfl
theorem q375 : (Jvm.Cond.interfaceEntry "SiteCuts" (40 : Nat)) ∈ lw_tbl := lw_at lw_m2 77 rfl
theorem q376 : (Jvm.Cond.methodLink "SiteCuts" (40 : Nat) ({ cls := "java/util/List", name := "add", desc := "(Ljava/lang/Object;)Z" } : Jvm.MethodName)) ∈ lw_all := lw_g (lw_at lw_m2 78 rfl) rfl
theorem q393 : (Jvm.Cond.instanceMethod ({ cls := "SiteCuts", name := "addCustomer", desc := "(I)I" } : Jvm.MethodName)) ∈ lw_all := lw_g (lw_at lw_m2 95 rfl) rfl
theorem q394 : (Jvm.Cond.selects "SiteCuts" ({ cls := "SiteCuts", name := "addCustomer", desc := "(I)I" } : Jvm.MethodName) ({ cls := "SiteCuts", name := "addCustomer", desc := "(I)I" } : Jvm.MethodName)) ∈ lw_all := lw_g (lw_at lw_m2 96 rfl) rfl
theorem q395 : (Jvm.Cond.code ({ cls := "SiteCuts", name := "addCustomer", desc := "(I)I" } : Jvm.MethodName) prog_1_method_11_code (4 : Nat) (Option.some Jvm.ClassFile.FieldType.int)) ∈ lw_all := lw_g (lw_at lw_m2 97 rfl) rfl
theorem q397 : (Jvm.Cond.instanceMethod ({ cls := "SiteCuts", name := "setPrice", desc := "(II)I" } : Jvm.MethodName)) ∈ lw_all := lw_g (lw_at lw_m2 99 rfl) rfl
theorem q398 : (Jvm.Cond.selects "SiteCuts" ({ cls := "SiteCuts", name := "setPrice", desc := "(II)I" } : Jvm.MethodName) ({ cls := "SiteCuts", name := "setPrice", desc := "(II)I" } : Jvm.MethodName)) ∈ lw_all := lw_g (lw_at lw_m2 100 rfl) rfl
theorem q399 : (Jvm.Cond.code ({ cls := "SiteCuts", name := "setPrice", desc := "(II)I" } : Jvm.MethodName) prog_1_method_12_code (5 : Nat) (Option.some Jvm.ClassFile.FieldType.int)) ∈ lw_all := lw_g (lw_at lw_m2 101 rfl) rfl
theorem q400 : (Jvm.Cond.methodLink "SiteCuts" (88 : Nat) ({ cls := "SiteCuts", name := "isSite", desc := "(I)Z" } : Jvm.MethodName)) ∈ lw_all := lw_g (lw_at lw_m2 102 rfl) rfl
theorem q401 : (Jvm.Cond.privateMethod ({ cls := "SiteCuts", name := "isSite", desc := "(I)Z" } : Jvm.MethodName)) ∈ lw_tbl := lw_at lw_m2 103 rfl
theorem q402 : (Jvm.Cond.instanceMethod ({ cls := "SiteCuts", name := "isSite", desc := "(I)Z" } : Jvm.MethodName)) ∈ lw_all := lw_g (lw_at lw_m2 104 rfl) rfl
theorem q403 : (Jvm.Cond.code ({ cls := "SiteCuts", name := "isSite", desc := "(I)Z" } : Jvm.MethodName) prog_1_method_5_code (2 : Nat) (Option.some Jvm.ClassFile.FieldType.boolean)) ∈ lw_all := lw_g (lw_at lw_m2 105 rfl) rfl
theorem q405 : (Jvm.Cond.instanceMethod ({ cls := "SiteCuts", name := "setDemand", desc := "(II)I" } : Jvm.MethodName)) ∈ lw_all := lw_g (lw_at lw_m2 107 rfl) rfl
theorem q406 : (Jvm.Cond.selects "SiteCuts" ({ cls := "SiteCuts", name := "setDemand", desc := "(II)I" } : Jvm.MethodName) ({ cls := "SiteCuts", name := "setDemand", desc := "(II)I" } : Jvm.MethodName)) ∈ lw_all := lw_g (lw_at lw_m2 108 rfl) rfl
theorem q407 : (Jvm.Cond.code ({ cls := "SiteCuts", name := "setDemand", desc := "(II)I" } : Jvm.MethodName) prog_1_method_13_code (5 : Nat) (Option.some Jvm.ClassFile.FieldType.int)) ∈ lw_all := lw_g (lw_at lw_m2 109 rfl) rfl
theorem q408 : (Jvm.Cond.methodLink "SiteCuts" (92 : Nat) ({ cls := "SiteCuts", name := "isCustomer", desc := "(I)Z" } : Jvm.MethodName)) ∈ lw_all := lw_g (lw_at lw_m2 110 rfl) rfl
theorem q409 : (Jvm.Cond.privateMethod ({ cls := "SiteCuts", name := "isCustomer", desc := "(I)Z" } : Jvm.MethodName)) ∈ lw_tbl := lw_at lw_m2 111 rfl
theorem q410 : (Jvm.Cond.instanceMethod ({ cls := "SiteCuts", name := "isCustomer", desc := "(I)Z" } : Jvm.MethodName)) ∈ lw_all := lw_g (lw_at lw_m2 112 rfl) rfl
theorem q411 : (Jvm.Cond.code ({ cls := "SiteCuts", name := "isCustomer", desc := "(I)Z" } : Jvm.MethodName) prog_1_method_6_code (2 : Nat) (Option.some Jvm.ClassFile.FieldType.boolean)) ∈ lw_all := lw_g (lw_at lw_m2 113 rfl) rfl
theorem q413 : (Jvm.Cond.instanceMethod ({ cls := "SiteCuts", name := "setRoute", desc := "(III)I" } : Jvm.MethodName)) ∈ lw_all := lw_g (lw_at lw_m2 115 rfl) rfl
theorem q414 : (Jvm.Cond.selects "SiteCuts" ({ cls := "SiteCuts", name := "setRoute", desc := "(III)I" } : Jvm.MethodName) ({ cls := "SiteCuts", name := "setRoute", desc := "(III)I" } : Jvm.MethodName)) ∈ lw_all := lw_g (lw_at lw_m2 116 rfl) rfl
theorem q415 : (Jvm.Cond.code ({ cls := "SiteCuts", name := "setRoute", desc := "(III)I" } : Jvm.MethodName) prog_1_method_14_code (6 : Nat) (Option.some Jvm.ClassFile.FieldType.int)) ∈ lw_all := lw_g (lw_at lw_m2 117 rfl) rfl
theorem q416 : (Jvm.Cond.methodLink "SiteCuts" (95 : Nat) ({ cls := "SiteCuts$Land", name := "route", desc := "(II)I" } : Jvm.MethodName)) ∈ lw_all := lw_g (lw_at lw_m2 118 rfl) rfl
theorem q421 : (Jvm.Cond.instanceMethod ({ cls := "SiteCuts", name := "setMost", desc := "(I)I" } : Jvm.MethodName)) ∈ lw_all := lw_g (lw_at lw_m2 123 rfl) rfl
theorem q422 : (Jvm.Cond.selects "SiteCuts" ({ cls := "SiteCuts", name := "setMost", desc := "(I)I" } : Jvm.MethodName) ({ cls := "SiteCuts", name := "setMost", desc := "(I)I" } : Jvm.MethodName)) ∈ lw_all := lw_g (lw_at lw_m2 124 rfl) rfl
theorem q423 : (Jvm.Cond.code ({ cls := "SiteCuts", name := "setMost", desc := "(I)I" } : Jvm.MethodName) prog_1_method_15_code (4 : Nat) (Option.some Jvm.ClassFile.FieldType.int)) ∈ lw_all := lw_g (lw_at lw_m2 125 rfl) rfl
theorem q425 : (Jvm.Cond.instanceMethod ({ cls := "SiteCuts", name := "exclude", desc := "(IIZ)I" } : Jvm.MethodName)) ∈ lw_all := lw_g (lw_at lw_m2 127 rfl) rfl
theorem q426 : (Jvm.Cond.selects "SiteCuts" ({ cls := "SiteCuts", name := "exclude", desc := "(IIZ)I" } : Jvm.MethodName) ({ cls := "SiteCuts", name := "exclude", desc := "(IIZ)I" } : Jvm.MethodName)) ∈ lw_all := lw_g (lw_at lw_m2 128 rfl) rfl
theorem q427 : (Jvm.Cond.code ({ cls := "SiteCuts", name := "exclude", desc := "(IIZ)I" } : Jvm.MethodName) prog_1_method_16_code (5 : Nat) (Option.some Jvm.ClassFile.FieldType.int)) ∈ lw_all := lw_g (lw_at lw_m2 129 rfl) rfl
theorem q428 : (Jvm.Cond.methodLink "SiteCuts" (111 : Nat) ({ cls := "SiteCuts", name := "has", desc := "(II)Z" } : Jvm.MethodName)) ∈ lw_all := lw_g (lw_at lw_m2 130 rfl) rfl
theorem q429 : (Jvm.Cond.static ({ cls := "SiteCuts", name := "has", desc := "(II)Z" } : Jvm.MethodName)) ∈ lw_all := lw_g (lw_at lw_m2 131 rfl) rfl
theorem q430 : (Jvm.Cond.code ({ cls := "SiteCuts", name := "has", desc := "(II)Z" } : Jvm.MethodName) prog_1_method_2_code (2 : Nat) (Option.some Jvm.ClassFile.FieldType.boolean)) ∈ lw_all := lw_g (lw_at lw_m2 132 rfl) rfl
theorem q431 : (Jvm.Cond.methodLink "SiteCuts" (115 : Nat) ({ cls := "java/lang/Integer", name := "bitCount", desc := "(I)I" } : Jvm.MethodName)) ∈ lw_all := lw_g (lw_at lw_m2 133 rfl) rfl
theorem q438 : (Jvm.Cond.instanceMethod ({ cls := "SiteCuts", name := "step", desc := "()I" } : Jvm.MethodName)) ∈ lw_all := lw_g (lw_at lw_m2 140 rfl) rfl
theorem q439 : (Jvm.Cond.selects "SiteCuts" ({ cls := "SiteCuts", name := "step", desc := "()I" } : Jvm.MethodName) ({ cls := "SiteCuts", name := "step", desc := "()I" } : Jvm.MethodName)) ∈ lw_all := lw_g (lw_at lw_m2 141 rfl) rfl
theorem q440 : (Jvm.Cond.code ({ cls := "SiteCuts", name := "step", desc := "()I" } : Jvm.MethodName) prog_1_method_17_code (2 : Nat) (Option.some Jvm.ClassFile.FieldType.int)) ∈ lw_all := lw_g (lw_at lw_m2 142 rfl) rfl
theorem q441 : (Jvm.Cond.methodLink "SiteCuts" (121 : Nat) ({ cls := "SiteCuts$State", name := "step", desc := "()I" } : Jvm.MethodName)) ∈ lw_all := lw_g (lw_at lw_m2 143 rfl) rfl
theorem q647 : (Jvm.Cond.instanceMethod ({ cls := "SiteCuts", name := "solve", desc := "()I" } : Jvm.MethodName)) ∈ lw_all := lw_g (lw_at lw_m3 109 rfl) rfl
theorem q648 : (Jvm.Cond.selects "SiteCuts" ({ cls := "SiteCuts", name := "solve", desc := "()I" } : Jvm.MethodName) ({ cls := "SiteCuts", name := "solve", desc := "()I" } : Jvm.MethodName)) ∈ lw_all := lw_g (lw_at lw_m3 110 rfl) rfl
theorem q649 : (Jvm.Cond.code ({ cls := "SiteCuts", name := "solve", desc := "()I" } : Jvm.MethodName) prog_1_method_18_code (4 : Nat) (Option.some Jvm.ClassFile.FieldType.int)) ∈ lw_all := lw_g (lw_at lw_m3 111 rfl) rfl
theorem q651 : (Jvm.Cond.instanceMethod ({ cls := "SiteCuts", name := "readCut", desc := "()I" } : Jvm.MethodName)) ∈ lw_all := lw_g (lw_at lw_m3 113 rfl) rfl
theorem q652 : (Jvm.Cond.selects "SiteCuts" ({ cls := "SiteCuts", name := "readCut", desc := "()I" } : Jvm.MethodName) ({ cls := "SiteCuts", name := "readCut", desc := "()I" } : Jvm.MethodName)) ∈ lw_all := lw_g (lw_at lw_m3 114 rfl) rfl
theorem q653 : (Jvm.Cond.codeWith ({ cls := "SiteCuts", name := "readCut", desc := "()I" } : Jvm.MethodName) prog_1_method_19_code (3 : Nat) (Option.some Jvm.ClassFile.FieldType.int) [((16 : Nat), (41 : Nat), (44 : Nat), (133 : Nat))]) ∈ lw_all := lw_g (lw_at lw_m3 115 rfl) rfl
theorem q654 : (Jvm.Cond.classLink "SiteCuts" (133 : Nat) "SiteCuts$TextFault") ∈ lw_all := lw_g (lw_at lw_m3 116 rfl) rfl
theorem q655 : (Jvm.Cond.classLink "SiteCuts" (124 : Nat) "SiteCuts$Reader") ∈ lw_all := lw_g (lw_at lw_m3 117 rfl) rfl
theorem q657 : (Jvm.Cond.methodLink "SiteCuts" (126 : Nat) ({ cls := "SiteCuts$Reader", name := "<init>", desc := "(Ljava/lang/CharSequence;)V" } : Jvm.MethodName)) ∈ lw_all := lw_g (lw_at lw_m3 119 rfl) rfl
theorem q668 : (Jvm.Cond.methodLink "SiteCuts" (129 : Nat) ({ cls := "SiteCuts$Reader", name := "numbers", desc := "(I)[I" } : Jvm.MethodName)) ∈ lw_all := lw_g (lw_at lw_m3 130 rfl) rfl
theorem q761 : (Jvm.Cond.fieldLinkNest "SiteCuts" (135 : Nat) "SiteCuts$TextFault" "place" "I" "SiteCuts") ∈ lw_tbl := lw_at lw_m3 223 rfl
theorem q784 : (Jvm.Cond.classLink "SiteCuts" (138 : Nat) "SiteCuts$TypedCut") ∈ lw_all := lw_g (lw_at lw_m4 6 rfl) rfl
theorem q786 : (Jvm.Cond.methodLink "SiteCuts" (140 : Nat) ({ cls := "SiteCuts$TypedCut", name := "<init>", desc := "([I)V" } : Jvm.MethodName)) ∈ lw_all := lw_g (lw_at lw_m4 8 rfl) rfl
theorem q793 : (Jvm.Cond.instanceMethod ({ cls := "SiteCuts", name := "drop", desc := "(I)I" } : Jvm.MethodName)) ∈ lw_all := lw_g (lw_at lw_m4 15 rfl) rfl
theorem q794 : (Jvm.Cond.selects "SiteCuts" ({ cls := "SiteCuts", name := "drop", desc := "(I)I" } : Jvm.MethodName) ({ cls := "SiteCuts", name := "drop", desc := "(I)I" } : Jvm.MethodName)) ∈ lw_all := lw_g (lw_at lw_m4 16 rfl) rfl
theorem q795 : (Jvm.Cond.code ({ cls := "SiteCuts", name := "drop", desc := "(I)I" } : Jvm.MethodName) prog_1_method_20_code (3 : Nat) (Option.some Jvm.ClassFile.FieldType.int)) ∈ lw_all := lw_g (lw_at lw_m4 17 rfl) rfl
theorem q796 : (Jvm.Cond.methodLink "SiteCuts" (143 : Nat) ({ cls := "SiteCuts", name := "isCut", desc := "(I)Z" } : Jvm.MethodName)) ∈ lw_all := lw_g (lw_at lw_m4 18 rfl) rfl
theorem q797 : (Jvm.Cond.privateMethod ({ cls := "SiteCuts", name := "isCut", desc := "(I)Z" } : Jvm.MethodName)) ∈ lw_tbl := lw_at lw_m4 19 rfl
theorem q798 : (Jvm.Cond.instanceMethod ({ cls := "SiteCuts", name := "isCut", desc := "(I)Z" } : Jvm.MethodName)) ∈ lw_all := lw_g (lw_at lw_m4 20 rfl) rfl
theorem q799 : (Jvm.Cond.code ({ cls := "SiteCuts", name := "isCut", desc := "(I)Z" } : Jvm.MethodName) prog_1_method_7_code (2 : Nat) (Option.some Jvm.ClassFile.FieldType.boolean)) ∈ lw_all := lw_g (lw_at lw_m4 21 rfl) rfl
theorem q801 : (Jvm.Cond.instanceMethod ({ cls := "SiteCuts", name := "dropLoose", desc := "()I" } : Jvm.MethodName)) ∈ lw_all := lw_g (lw_at lw_m4 23 rfl) rfl
theorem q802 : (Jvm.Cond.selects "SiteCuts" ({ cls := "SiteCuts", name := "dropLoose", desc := "()I" } : Jvm.MethodName) ({ cls := "SiteCuts", name := "dropLoose", desc := "()I" } : Jvm.MethodName)) ∈ lw_all := lw_g (lw_at lw_m4 24 rfl) rfl
theorem q803 : (Jvm.Cond.code ({ cls := "SiteCuts", name := "dropLoose", desc := "()I" } : Jvm.MethodName) prog_1_method_21_code (4 : Nat) (Option.some Jvm.ClassFile.FieldType.int)) ∈ lw_all := lw_g (lw_at lw_m4 25 rfl) rfl
theorem q804 : (Jvm.Cond.methodLink "SiteCuts" (146 : Nat) ({ cls := "SiteCuts$State", name := "master", desc := "()I" } : Jvm.MethodName)) ∈ lw_all := lw_g (lw_at lw_m4 26 rfl) rfl
theorem q805 : (Jvm.Cond.methodLink "SiteCuts" (149 : Nat) ({ cls := "SiteCuts$State", name := "dropLoose", desc := "(I)I" } : Jvm.MethodName)) ∈ lw_all := lw_g (lw_at lw_m4 27 rfl) rfl
theorem q814 : (Jvm.Cond.instanceMethod ({ cls := "SiteCuts", name := "type", desc := "(C)I" } : Jvm.MethodName)) ∈ lw_all := lw_g (lw_at lw_m4 36 rfl) rfl
theorem q815 : (Jvm.Cond.selects "SiteCuts" ({ cls := "SiteCuts", name := "type", desc := "(C)I" } : Jvm.MethodName) ({ cls := "SiteCuts", name := "type", desc := "(C)I" } : Jvm.MethodName)) ∈ lw_all := lw_g (lw_at lw_m4 37 rfl) rfl
theorem q816 : (Jvm.Cond.code ({ cls := "SiteCuts", name := "type", desc := "(C)I" } : Jvm.MethodName) prog_1_method_22_code (2 : Nat) (Option.some Jvm.ClassFile.FieldType.int)) ∈ lw_all := lw_g (lw_at lw_m4 38 rfl) rfl
theorem q817 : (Jvm.Cond.methodLink "SiteCuts" (152 : Nat) ({ cls := "java/lang/StringBuilder", name := "length", desc := "()I" } : Jvm.MethodName)) ∈ lw_all := lw_g (lw_at lw_m4 39 rfl) rfl
theorem q818 : (Jvm.Cond.methodLink "SiteCuts" (155 : Nat) ({ cls := "java/lang/StringBuilder", name := "append", desc := "(C)Ljava/lang/StringBuilder;" } : Jvm.MethodName)) ∈ lw_all := lw_g (lw_at lw_m4 40 rfl) rfl
theorem q883 : (Jvm.Cond.instanceMethod ({ cls := "SiteCuts", name := "clearText", desc := "()I" } : Jvm.MethodName)) ∈ lw_all := lw_g (lw_at lw_m4 105 rfl) rfl
theorem q884 : (Jvm.Cond.selects "SiteCuts" ({ cls := "SiteCuts", name := "clearText", desc := "()I" } : Jvm.MethodName) ({ cls := "SiteCuts", name := "clearText", desc := "()I" } : Jvm.MethodName)) ∈ lw_all := lw_g (lw_at lw_m4 106 rfl) rfl
theorem q885 : (Jvm.Cond.code ({ cls := "SiteCuts", name := "clearText", desc := "()I" } : Jvm.MethodName) prog_1_method_23_code (2 : Nat) (Option.some Jvm.ClassFile.FieldType.int)) ∈ lw_all := lw_g (lw_at lw_m4 107 rfl) rfl
theorem q886 : (Jvm.Cond.methodLink "SiteCuts" (159 : Nat) ({ cls := "java/lang/StringBuilder", name := "setLength", desc := "(I)V" } : Jvm.MethodName)) ∈ lw_all := lw_g (lw_at lw_m4 108 rfl) rfl
theorem q907 : (Jvm.Cond.instanceMethod ({ cls := "SiteCuts", name := "undo", desc := "()I" } : Jvm.MethodName)) ∈ lw_all := lw_g (lw_at lw_m4 129 rfl) rfl
theorem q908 : (Jvm.Cond.selects "SiteCuts" ({ cls := "SiteCuts", name := "undo", desc := "()I" } : Jvm.MethodName) ({ cls := "SiteCuts", name := "undo", desc := "()I" } : Jvm.MethodName)) ∈ lw_all := lw_g (lw_at lw_m4 130 rfl) rfl
theorem q909 : (Jvm.Cond.code ({ cls := "SiteCuts", name := "undo", desc := "()I" } : Jvm.MethodName) prog_1_method_24_code (1 : Nat) (Option.some Jvm.ClassFile.FieldType.int)) ∈ lw_all := lw_g (lw_at lw_m4 131 rfl) rfl
theorem q910 : (Jvm.Cond.interfaceEntry "SiteCuts" (163 : Nat)) ∈ lw_tbl := lw_at lw_m4 132 rfl
theorem q911 : (Jvm.Cond.methodLink "SiteCuts" (163 : Nat) ({ cls := "java/util/List", name := "isEmpty", desc := "()Z" } : Jvm.MethodName)) ∈ lw_all := lw_g (lw_at lw_m4 133 rfl) rfl
theorem q920 : (Jvm.Cond.instanceMethod ({ cls := "SiteCuts", name := "keep", desc := "()I" } : Jvm.MethodName)) ∈ lw_all := lw_g (lw_at lw_m4 142 rfl) rfl
theorem q921 : (Jvm.Cond.selects "SiteCuts" ({ cls := "SiteCuts", name := "keep", desc := "()I" } : Jvm.MethodName) ({ cls := "SiteCuts", name := "keep", desc := "()I" } : Jvm.MethodName)) ∈ lw_all := lw_g (lw_at lw_m4 143 rfl) rfl
theorem q922 : (Jvm.Cond.code ({ cls := "SiteCuts", name := "keep", desc := "()I" } : Jvm.MethodName) prog_1_method_25_code (1 : Nat) (Option.some Jvm.ClassFile.FieldType.int)) ∈ lw_all := lw_g (lw_at lw_m4 144 rfl) rfl
theorem q924 : (Jvm.Cond.instanceMethod ({ cls := "SiteCuts", name := "restore", desc := "()I" } : Jvm.MethodName)) ∈ lw_all := lw_g (lw_at lw_m4 146 rfl) rfl
theorem q925 : (Jvm.Cond.selects "SiteCuts" ({ cls := "SiteCuts", name := "restore", desc := "()I" } : Jvm.MethodName) ({ cls := "SiteCuts", name := "restore", desc := "()I" } : Jvm.MethodName)) ∈ lw_all := lw_g (lw_at lw_m4 147 rfl) rfl
theorem q926 : (Jvm.Cond.code ({ cls := "SiteCuts", name := "restore", desc := "()I" } : Jvm.MethodName) prog_1_method_26_code (1 : Nat) (Option.some Jvm.ClassFile.FieldType.int)) ∈ lw_all := lw_g (lw_at lw_m4 148 rfl) rfl
theorem q928 : (Jvm.Cond.instanceMethod ({ cls := "SiteCuts", name := "judge", desc := "(I)I" } : Jvm.MethodName)) ∈ lw_all := lw_g (lw_at lw_m4 150 rfl) rfl
theorem q929 : (Jvm.Cond.selects "SiteCuts" ({ cls := "SiteCuts", name := "judge", desc := "(I)I" } : Jvm.MethodName) ({ cls := "SiteCuts", name := "judge", desc := "(I)I" } : Jvm.MethodName)) ∈ lw_all := lw_g (lw_at lw_m4 151 rfl) rfl
theorem q930 : (Jvm.Cond.code ({ cls := "SiteCuts", name := "judge", desc := "(I)I" } : Jvm.MethodName) prog_1_method_27_code (2 : Nat) (Option.some Jvm.ClassFile.FieldType.int)) ∈ lw_all := lw_g (lw_at lw_m4 152 rfl) rfl
theorem q931 : (Jvm.Cond.methodLink "SiteCuts" (170 : Nat) ({ cls := "SiteCuts", name := "isPlan", desc := "(I)Z" } : Jvm.MethodName)) ∈ lw_all := lw_g (lw_at lw_m4 153 rfl) rfl
theorem q932 : (Jvm.Cond.privateMethod ({ cls := "SiteCuts", name := "isPlan", desc := "(I)Z" } : Jvm.MethodName)) ∈ lw_tbl := lw_at lw_m4 154 rfl
theorem q933 : (Jvm.Cond.instanceMethod ({ cls := "SiteCuts", name := "isPlan", desc := "(I)Z" } : Jvm.MethodName)) ∈ lw_all := lw_g (lw_at lw_m4 155 rfl) rfl
theorem q934 : (Jvm.Cond.code ({ cls := "SiteCuts", name := "isPlan", desc := "(I)Z" } : Jvm.MethodName) prog_1_method_8_code (2 : Nat) (Option.some Jvm.ClassFile.FieldType.boolean)) ∈ lw_all := lw_g (lw_at lw_m4 156 rfl) rfl
theorem q935 : (Jvm.Cond.methodLink "SiteCuts" (64 : Nat) ({ cls := "SiteCuts$Land", name := "plans", desc := "()I" } : Jvm.MethodName)) ∈ lw_all := lw_g (lw_at lw_m4 157 rfl) rfl
theorem q936 : (Jvm.Cond.methodLink "SiteCuts" (173 : Nat) ({ cls := "SiteCuts$Land", name := "against", desc := "(I)LSiteCuts$Against;" } : Jvm.MethodName)) ∈ lw_all := lw_g (lw_at lw_m4 158 rfl) rfl
theorem q944 : (Jvm.Cond.methodLink "SiteCuts" (177 : Nat) ({ cls := "SiteCuts$Against", name := "ordinal", desc := "()I" } : Jvm.MethodName)) ∈ lw_all := lw_g (lw_at lw_m4 166 rfl) rfl
theorem q954 : (Jvm.Cond.instanceMethod ({ cls := "SiteCuts", name := "plan", desc := "(II)I" } : Jvm.MethodName)) ∈ lw_all := lw_g (lw_at lw_m4 176 rfl) rfl
theorem q955 : (Jvm.Cond.selects "SiteCuts" ({ cls := "SiteCuts", name := "plan", desc := "(II)I" } : Jvm.MethodName) ({ cls := "SiteCuts", name := "plan", desc := "(II)I" } : Jvm.MethodName)) ∈ lw_all := lw_g (lw_at lw_m4 177 rfl) rfl
theorem q956 : (Jvm.Cond.code ({ cls := "SiteCuts", name := "plan", desc := "(II)I" } : Jvm.MethodName) prog_1_method_28_code (4 : Nat) (Option.some Jvm.ClassFile.FieldType.int)) ∈ lw_all := lw_g (lw_at lw_m4 178 rfl) rfl
theorem q957 : (Jvm.Cond.methodLink "SiteCuts" (182 : Nat) ({ cls := "SiteCuts$Land", name := "lost", desc := "(I)I" } : Jvm.MethodName)) ∈ lw_all := lw_g (lw_at lw_m4 179 rfl) rfl
theorem q958 : (Jvm.Cond.methodLink "SiteCuts" (185 : Nat) ({ cls := "SiteCuts$Land", name := "cost", desc := "(I)I" } : Jvm.MethodName)) ∈ lw_all := lw_g (lw_at lw_m4 180 rfl) rfl
theorem q959 : (Jvm.Cond.methodLink "SiteCuts" (188 : Nat) ({ cls := "SiteCuts$Land", name := "pricesOf", desc := "(I)I" } : Jvm.MethodName)) ∈ lw_all := lw_g (lw_at lw_m4 181 rfl) rfl
theorem q960 : (Jvm.Cond.methodLink "SiteCuts" (191 : Nat) ({ cls := "SiteCuts$Land", name := "routesOf", desc := "(I)I" } : Jvm.MethodName)) ∈ lw_all := lw_g (lw_at lw_m4 182 rfl) rfl
theorem q961 : (Jvm.Cond.methodLink "SiteCuts" (194 : Nat) ({ cls := "SiteCuts$State", name := "guess", desc := "(I)I" } : Jvm.MethodName)) ∈ lw_all := lw_g (lw_at lw_m4 183 rfl) rfl
theorem q962 : (Jvm.Cond.methodLink "SiteCuts" (197 : Nat) ({ cls := "SiteCuts$State", name := "broken", desc := "(I)I" } : Jvm.MethodName)) ∈ lw_all := lw_g (lw_at lw_m4 184 rfl) rfl
theorem q964 : (Jvm.Cond.instanceMethod ({ cls := "SiteCuts", name := "serves", desc := "(II)I" } : Jvm.MethodName)) ∈ lw_all := lw_g (lw_at lw_m4 186 rfl) rfl
theorem q965 : (Jvm.Cond.selects "SiteCuts" ({ cls := "SiteCuts", name := "serves", desc := "(II)I" } : Jvm.MethodName) ({ cls := "SiteCuts", name := "serves", desc := "(II)I" } : Jvm.MethodName)) ∈ lw_all := lw_g (lw_at lw_m4 187 rfl) rfl
theorem q966 : (Jvm.Cond.code ({ cls := "SiteCuts", name := "serves", desc := "(II)I" } : Jvm.MethodName) prog_1_method_29_code (3 : Nat) (Option.some Jvm.ClassFile.FieldType.int)) ∈ lw_all := lw_g (lw_at lw_m4 188 rfl) rfl
theorem q967 : (Jvm.Cond.methodLink "SiteCuts" (200 : Nat) ({ cls := "SiteCuts$Land", name := "server", desc := "(II)I" } : Jvm.MethodName)) ∈ lw_all := lw_g (lw_at lw_m4 189 rfl) rfl
theorem q969 : (Jvm.Cond.instanceMethod ({ cls := "SiteCuts", name := "cut", desc := "(II)I" } : Jvm.MethodName)) ∈ lw_all := lw_g (lw_at lw_m4 191 rfl) rfl
theorem q970 : (Jvm.Cond.selects "SiteCuts" ({ cls := "SiteCuts", name := "cut", desc := "(II)I" } : Jvm.MethodName) ({ cls := "SiteCuts", name := "cut", desc := "(II)I" } : Jvm.MethodName)) ∈ lw_all := lw_g (lw_at lw_m4 192 rfl) rfl
theorem q971 : (Jvm.Cond.code ({ cls := "SiteCuts", name := "cut", desc := "(II)I" } : Jvm.MethodName) prog_1_method_30_code (5 : Nat) (Option.some Jvm.ClassFile.FieldType.int)) ∈ lw_all := lw_g (lw_at lw_m4 193 rfl) rfl
theorem q972 : (Jvm.Cond.interfaceEntry "SiteCuts" (203 : Nat)) ∈ lw_tbl := lw_at lw_m4 194 rfl
theorem q973 : (Jvm.Cond.methodLink "SiteCuts" (203 : Nat) ({ cls := "java/util/List", name := "get", desc := "(I)Ljava/lang/Object;" } : Jvm.MethodName)) ∈ lw_all := lw_g (lw_at lw_m4 195 rfl) rfl
theorem q974 : (Jvm.Cond.classLink "SiteCuts" (206 : Nat) "SiteCuts$Cut") ∈ lw_all := lw_g (lw_at lw_m4 196 rfl) rfl
theorem q975 : (Jvm.Cond.methodLink "SiteCuts" (208 : Nat) ({ cls := "SiteCuts$Cut", name := "isRay", desc := "()Z" } : Jvm.MethodName)) ∈ lw_all := lw_g (lw_at lw_m4 197 rfl) rfl
theorem q976 : (Jvm.Cond.methodLink "SiteCuts" (211 : Nat) ({ cls := "SiteCuts$Cut", name := "customer", desc := "()I" } : Jvm.MethodName)) ∈ lw_all := lw_g (lw_at lw_m4 198 rfl) rfl
theorem q985 : (Jvm.Cond.methodLink "SiteCuts" (214 : Nat) ({ cls := "SiteCuts$Cut", name := "constant", desc := "(LSiteCuts$Land;)I" } : Jvm.MethodName)) ∈ lw_all := lw_g (lw_at lw_m4 207 rfl) rfl
theorem q993 : (Jvm.Cond.static ({ cls := "SiteCuts", name := "lambda$cut$0", desc := "(LSiteCuts$Land;LSiteCuts$Cut;I)Z" } : Jvm.MethodName)) ∈ lw_all := lw_g (lw_at lw_m4 215 rfl) rfl
theorem q994 : (Jvm.Cond.code ({ cls := "SiteCuts", name := "lambda$cut$0", desc := "(LSiteCuts$Land;LSiteCuts$Cut;I)Z" } : Jvm.MethodName) prog_1_method_41_code (3 : Nat) (Option.some Jvm.ClassFile.FieldType.boolean)) ∈ lw_all := lw_g (lw_at lw_m4 216 rfl) rfl
theorem q995 : (Jvm.Cond.methodLink "SiteCuts" (255 : Nat) ({ cls := "SiteCuts$Land", name := "isFeasible", desc := "(I)Z" } : Jvm.MethodName)) ∈ lw_all := lw_g (lw_at lw_m4 217 rfl) rfl
theorem q1000 : (Jvm.Cond.methodLink "SiteCuts" (262 : Nat) ({ cls := "SiteCuts$Cut", name := "isBroken", desc := "(LSiteCuts$Land;I)Z" } : Jvm.MethodName)) ∈ lw_all := lw_g (lw_at lw_m4 222 rfl) rfl
theorem q1001 : (Jvm.Cond.methodLink "SiteCuts" (222 : Nat) ({ cls := "SiteCuts$Land", name := "count", desc := "(LSiteCuts$Judge;)I" } : Jvm.MethodName)) ∈ lw_all := lw_g (lw_at lw_m4 223 rfl) rfl
theorem q1008 : (Jvm.Cond.static ({ cls := "SiteCuts", name := "lambda$cut$1", desc := "(LSiteCuts$Land;LSiteCuts$Cut;I)Z" } : Jvm.MethodName)) ∈ lw_all := lw_g (lw_at lw_m4 230 rfl) rfl
theorem q1009 : (Jvm.Cond.code ({ cls := "SiteCuts", name := "lambda$cut$1", desc := "(LSiteCuts$Land;LSiteCuts$Cut;I)Z" } : Jvm.MethodName) prog_1_method_40_code (3 : Nat) (Option.some Jvm.ClassFile.FieldType.boolean)) ∈ lw_all := lw_g (lw_at lw_m4 231 rfl) rfl
theorem q1010 : (Jvm.Cond.methodLink "SiteCuts" (258 : Nat) ({ cls := "SiteCuts$Cut", name := "isTight", desc := "(LSiteCuts$Land;I)Z" } : Jvm.MethodName)) ∈ lw_all := lw_g (lw_at lw_m4 232 rfl) rfl
theorem q1020 : (Jvm.Cond.instanceMethod ({ cls := "SiteCuts", name := "weight", desc := "(II)I" } : Jvm.MethodName)) ∈ lw_all := lw_g (lw_at lw_m5 2 rfl) rfl
theorem q1021 : (Jvm.Cond.selects "SiteCuts" ({ cls := "SiteCuts", name := "weight", desc := "(II)I" } : Jvm.MethodName) ({ cls := "SiteCuts", name := "weight", desc := "(II)I" } : Jvm.MethodName)) ∈ lw_all := lw_g (lw_at lw_m5 3 rfl) rfl
theorem q1022 : (Jvm.Cond.code ({ cls := "SiteCuts", name := "weight", desc := "(II)I" } : Jvm.MethodName) prog_1_method_31_code (3 : Nat) (Option.some Jvm.ClassFile.FieldType.int)) ∈ lw_all := lw_g (lw_at lw_m5 4 rfl) rfl
theorem q1023 : (Jvm.Cond.methodLink "SiteCuts" (227 : Nat) ({ cls := "SiteCuts$Cut", name := "weight", desc := "(LSiteCuts$Land;I)I" } : Jvm.MethodName)) ∈ lw_all := lw_g (lw_at lw_m5 5 rfl) rfl
theorem q1025 : (Jvm.Cond.instanceMethod ({ cls := "SiteCuts", name := "value", desc := "(II)I" } : Jvm.MethodName)) ∈ lw_all := lw_g (lw_at lw_m5 7 rfl) rfl
theorem q1026 : (Jvm.Cond.selects "SiteCuts" ({ cls := "SiteCuts", name := "value", desc := "(II)I" } : Jvm.MethodName) ({ cls := "SiteCuts", name := "value", desc := "(II)I" } : Jvm.MethodName)) ∈ lw_all := lw_g (lw_at lw_m5 8 rfl) rfl
theorem q1027 : (Jvm.Cond.code ({ cls := "SiteCuts", name := "value", desc := "(II)I" } : Jvm.MethodName) prog_1_method_32_code (4 : Nat) (Option.some Jvm.ClassFile.FieldType.int)) ∈ lw_all := lw_g (lw_at lw_m5 9 rfl) rfl
theorem q1028 : (Jvm.Cond.methodLink "SiteCuts" (231 : Nat) ({ cls := "SiteCuts$Cut", name := "value", desc := "(LSiteCuts$Land;I)I" } : Jvm.MethodName)) ∈ lw_all := lw_g (lw_at lw_m5 10 rfl) rfl
theorem q1029 : (Jvm.Cond.constant "SiteCuts" (234 : Nat) (1000000 : Int32)) ∈ lw_all := lw_g (lw_at lw_m5 11 rfl) rfl
theorem q1031 : (Jvm.Cond.instanceMethod ({ cls := "SiteCuts", name := "master", desc := "(I)I" } : Jvm.MethodName)) ∈ lw_all := lw_g (lw_at lw_m5 13 rfl) rfl
theorem q1032 : (Jvm.Cond.selects "SiteCuts" ({ cls := "SiteCuts", name := "master", desc := "(I)I" } : Jvm.MethodName) ({ cls := "SiteCuts", name := "master", desc := "(I)I" } : Jvm.MethodName)) ∈ lw_all := lw_g (lw_at lw_m5 14 rfl) rfl
theorem q1033 : (Jvm.Cond.code ({ cls := "SiteCuts", name := "master", desc := "(I)I" } : Jvm.MethodName) prog_1_method_33_code (3 : Nat) (Option.some Jvm.ClassFile.FieldType.int)) ∈ lw_all := lw_g (lw_at lw_m5 15 rfl) rfl
theorem q1034 : (Jvm.Cond.methodLink "SiteCuts" (235 : Nat) ({ cls := "SiteCuts$State", name := "upper", desc := "()I" } : Jvm.MethodName)) ∈ lw_all := lw_g (lw_at lw_m5 16 rfl) rfl
theorem q1036 : (Jvm.Cond.instanceMethod ({ cls := "SiteCuts", name := "byAll", desc := "(I)I" } : Jvm.MethodName)) ∈ lw_all := lw_g (lw_at lw_m5 18 rfl) rfl
theorem q1037 : (Jvm.Cond.selects "SiteCuts" ({ cls := "SiteCuts", name := "byAll", desc := "(I)I" } : Jvm.MethodName) ({ cls := "SiteCuts", name := "byAll", desc := "(I)I" } : Jvm.MethodName)) ∈ lw_all := lw_g (lw_at lw_m5 19 rfl) rfl
theorem q1038 : (Jvm.Cond.code ({ cls := "SiteCuts", name := "byAll", desc := "(I)I" } : Jvm.MethodName) prog_1_method_34_code (3 : Nat) (Option.some Jvm.ClassFile.FieldType.int)) ∈ lw_all := lw_g (lw_at lw_m5 20 rfl) rfl
theorem q1039 : (Jvm.Cond.privateMethod ({ cls := "SiteCuts", name := "lambda$byAll$2", desc := "(I)Z" } : Jvm.MethodName)) ∈ lw_tbl := lw_at lw_m5 21 rfl
theorem q1040 : (Jvm.Cond.instanceMethod ({ cls := "SiteCuts", name := "lambda$byAll$2", desc := "(I)Z" } : Jvm.MethodName)) ∈ lw_all := lw_g (lw_at lw_m5 22 rfl) rfl
theorem q1041 : (Jvm.Cond.code ({ cls := "SiteCuts", name := "lambda$byAll$2", desc := "(I)Z" } : Jvm.MethodName) prog_1_method_39_code (2 : Nat) (Option.some Jvm.ClassFile.FieldType.boolean)) ∈ lw_all := lw_g (lw_at lw_m5 23 rfl) rfl
theorem q1042 : (Jvm.Cond.methodLink "SiteCuts" (241 : Nat) ({ cls := "SiteCuts$State", name := "bestOfAll", desc := "()I" } : Jvm.MethodName)) ∈ lw_all := lw_g (lw_at lw_m5 24 rfl) rfl
theorem q1054 : (Jvm.Cond.instanceMethod ({ cls := "SiteCuts", name := "count", desc := "(I)I" } : Jvm.MethodName)) ∈ lw_all := lw_g (lw_at lw_m5 36 rfl) rfl
theorem q1055 : (Jvm.Cond.selects "SiteCuts" ({ cls := "SiteCuts", name := "count", desc := "(I)I" } : Jvm.MethodName) ({ cls := "SiteCuts", name := "count", desc := "(I)I" } : Jvm.MethodName)) ∈ lw_all := lw_g (lw_at lw_m5 37 rfl) rfl
theorem q1056 : (Jvm.Cond.code ({ cls := "SiteCuts", name := "count", desc := "(I)I" } : Jvm.MethodName) prog_1_method_38_code (2 : Nat) (Option.some Jvm.ClassFile.FieldType.int)) ∈ lw_all := lw_g (lw_at lw_m5 38 rfl) rfl
theorem q1057 : (Jvm.Cond.methodLink "SiteCuts" (244 : Nat) ({ cls := "SiteCuts", name := "routes", desc := "()I" } : Jvm.MethodName)) ∈ lw_all := lw_g (lw_at lw_m5 39 rfl) rfl
theorem q1058 : (Jvm.Cond.privateMethod ({ cls := "SiteCuts", name := "routes", desc := "()I" } : Jvm.MethodName)) ∈ lw_tbl := lw_at lw_m5 40 rfl
theorem q1059 : (Jvm.Cond.instanceMethod ({ cls := "SiteCuts", name := "routes", desc := "()I" } : Jvm.MethodName)) ∈ lw_all := lw_g (lw_at lw_m5 41 rfl) rfl
theorem q1060 : (Jvm.Cond.code ({ cls := "SiteCuts", name := "routes", desc := "()I" } : Jvm.MethodName) prog_1_method_35_code (4 : Nat) (Option.some Jvm.ClassFile.FieldType.int)) ∈ lw_all := lw_g (lw_at lw_m5 42 rfl) rfl
theorem q1061 : (Jvm.Cond.methodLink "SiteCuts" (246 : Nat) ({ cls := "SiteCuts", name := "pairs", desc := "()I" } : Jvm.MethodName)) ∈ lw_all := lw_g (lw_at lw_m5 43 rfl) rfl
theorem q1062 : (Jvm.Cond.privateMethod ({ cls := "SiteCuts", name := "pairs", desc := "()I" } : Jvm.MethodName)) ∈ lw_tbl := lw_at lw_m5 44 rfl
theorem q1063 : (Jvm.Cond.instanceMethod ({ cls := "SiteCuts", name := "pairs", desc := "()I" } : Jvm.MethodName)) ∈ lw_all := lw_g (lw_at lw_m5 45 rfl) rfl
theorem q1064 : (Jvm.Cond.code ({ cls := "SiteCuts", name := "pairs", desc := "()I" } : Jvm.MethodName) prog_1_method_36_code (3 : Nat) (Option.some Jvm.ClassFile.FieldType.int)) ∈ lw_all := lw_g (lw_at lw_m5 46 rfl) rfl
theorem q1065 : (Jvm.Cond.methodLink "SiteCuts" (249 : Nat) ({ cls := "SiteCuts", name := "rays", desc := "()I" } : Jvm.MethodName)) ∈ lw_all := lw_g (lw_at lw_m5 47 rfl) rfl
theorem q1066 : (Jvm.Cond.privateMethod ({ cls := "SiteCuts", name := "rays", desc := "()I" } : Jvm.MethodName)) ∈ lw_tbl := lw_at lw_m5 48 rfl
theorem q1067 : (Jvm.Cond.instanceMethod ({ cls := "SiteCuts", name := "rays", desc := "()I" } : Jvm.MethodName)) ∈ lw_all := lw_g (lw_at lw_m5 49 rfl) rfl
theorem q1068 : (Jvm.Cond.code ({ cls := "SiteCuts", name := "rays", desc := "()I" } : Jvm.MethodName) prog_1_method_37_code (3 : Nat) (Option.some Jvm.ClassFile.FieldType.int)) ∈ lw_all := lw_g (lw_at lw_m5 50 rfl) rfl
theorem q1384 : (Jvm.Cond.castable "SiteCuts" "java/lang/Object") ∈ lw_tbl := lw_at lw_m6 126 rfl
theorem in_X0 : ∀ w ∈ wsX00, w ∈ lw_all := lw_in wsX00 [226, 228, 230, 232] (by decide +kernel) (by decide +kernel)

/-! SiteCuts$State -/
set_option maxRecDepth 100000
def RX1 : String := "SiteCuts$State"
def TX1 : u_T := fun k => match k with
  | 0 => ("SiteCuts$State", "land", "LSiteCuts$Land;", false)
  | 1 => ("SiteCuts$State", "cuts", "Ljava/util/List;", true)
  | 2 => ("SiteCuts$State", "best", "I", false)
  | _ => ("SiteCuts$State", "steps", "I", false)
def tyX1 : Nat → FieldType := fun k => match k with
  | 0 => .object "SiteCuts$Land"
  | 1 => .object "java/util/List"
  | 2 => .int
  | _ => .int
abbrev wsX10 : List Cond := u_ws RX1 TX1 4
theorem nmX1 : ∀ a, a < 4 → ∀ b, b < 4 → a ≠ b → (TX1 a).2.1 ≠ (TX1 b).2.1 := by decide +kernel
theorem tyX1_ok : ∀ k, k < 4 → parseFieldDescriptor (TX1 k).2.2.1 = some (tyX1 k) := by decide +kernel
abbrev cX1_init : ByteArray := prog_14_method_1_code
def yX1_init : MethodName := ⟨RX1, "<init>", "()V"⟩
def dkwX1_init_1 : List UInt8 := [181, 0, 21, 42, 16, 251, 181, 0, 25, 177]
abbrev dktX1_init_1 : List UInt8 := dkwX1_init_1 ++ []
def dkwX1_init_0 : List UInt8 := [42, 183, 0, 3, 42, 187, 0, 9, 89, 183, 0, 11, 181, 0, 12, 42, 187, 0, 18, 89, 183, 0, 20]
abbrev dktX1_init_0 : List UInt8 := dkwX1_init_0 ++ dktX1_init_1
theorem dksX1_init_0 : cX1_init.data.toList.drop 0 = dktX1_init_0 := by decide +kernel
theorem dksX1_init_1 : cX1_init.data.toList.drop 23 = dktX1_init_1 := dk_seg dksX1_init_0 23 rfl rfl
theorem dX1_init_0 : decode cX1_init 0 = .ok (.aload_n 0, 1) := dk_42 (dk_at dksX1_init_0 0 rfl rfl)
theorem dX1_init_1 : decode cX1_init 1 = .ok (.invokespecial 3, 3) := dk_183 0 3 (dk_at dksX1_init_0 1 rfl rfl)
theorem dX1_init_4 : decode cX1_init 4 = .ok (.aload_n 0, 1) := dk_42 (dk_at dksX1_init_0 4 rfl rfl)
theorem dX1_init_5 : decode cX1_init 5 = .ok (.new 9, 3) := dk_187 0 9 (dk_at dksX1_init_0 5 rfl rfl)
theorem dX1_init_8 : decode cX1_init 8 = .ok (.dup, 1) := dk_89 (dk_at dksX1_init_0 8 rfl rfl)
theorem dX1_init_9 : decode cX1_init 9 = .ok (.invokespecial 11, 3) := dk_183 0 11 (dk_at dksX1_init_0 9 rfl rfl)
theorem dX1_init_12 : decode cX1_init 12 = .ok (.putfield 12, 3) := dk_181 0 12 (dk_at dksX1_init_0 12 rfl rfl)
theorem dX1_init_15 : decode cX1_init 15 = .ok (.aload_n 0, 1) := dk_42 (dk_at dksX1_init_0 15 rfl rfl)
theorem dX1_init_16 : decode cX1_init 16 = .ok (.new 18, 3) := dk_187 0 18 (dk_at dksX1_init_0 16 rfl rfl)
theorem dX1_init_19 : decode cX1_init 19 = .ok (.dup, 1) := dk_89 (dk_at dksX1_init_0 19 rfl rfl)
theorem dX1_init_20 : decode cX1_init 20 = .ok (.invokespecial 20, 3) := dk_183 0 20 (dk_at dksX1_init_0 20 rfl rfl)
theorem dX1_init_23 : decode cX1_init 23 = .ok (.putfield 21, 3) := dk_181 0 21 (dk_at dksX1_init_1 0 rfl rfl)
theorem dX1_init_26 : decode cX1_init 26 = .ok (.aload_n 0, 1) := dk_42 (dk_at dksX1_init_1 3 rfl rfl)
theorem dX1_init_27 : decode cX1_init 27 = .ok (.bipush (-5), 2) := dk_16 251 (dk_at dksX1_init_1 4 rfl rfl)
theorem dX1_init_29 : decode cX1_init 29 = .ok (.putfield 25, 3) := dk_181 0 25 (dk_at dksX1_init_1 6 rfl rfl)
theorem dX1_init_32 : decode cX1_init 32 = .ok (.return_, 1) := dk_177 (dk_at dksX1_init_1 9 rfl rfl)
abbrev cX1_copy : ByteArray := prog_14_method_2_code
def yX1_copy : MethodName := ⟨RX1, "copy", "()LSiteCuts$State;"⟩
def dkwX1_copy_2 : List UInt8 := [181, 0, 40, 43, 176]
abbrev dktX1_copy_2 : List UInt8 := dkwX1_copy_2 ++ []
def dkwX1_copy_1 : List UInt8 := [180, 0, 21, 185, 0, 34, 2, 0, 87, 43, 42, 180, 0, 25, 181, 0, 25, 43, 42, 180, 0, 40]
abbrev dktX1_copy_1 : List UInt8 := dkwX1_copy_1 ++ dktX1_copy_2
def dkwX1_copy_0 : List UInt8 := [187, 0, 13, 89, 183, 0, 29, 76, 43, 42, 180, 0, 12, 182, 0, 30, 181, 0, 12, 43, 180, 0, 21, 42]
abbrev dktX1_copy_0 : List UInt8 := dkwX1_copy_0 ++ dktX1_copy_1
theorem dksX1_copy_0 : cX1_copy.data.toList.drop 0 = dktX1_copy_0 := by decide +kernel
theorem dksX1_copy_1 : cX1_copy.data.toList.drop 24 = dktX1_copy_1 := dk_seg dksX1_copy_0 24 rfl rfl
theorem dksX1_copy_2 : cX1_copy.data.toList.drop 46 = dktX1_copy_2 := dk_seg dksX1_copy_1 22 rfl rfl
theorem dX1_copy_0 : decode cX1_copy 0 = .ok (.new 13, 3) := dk_187 0 13 (dk_at dksX1_copy_0 0 rfl rfl)
theorem dX1_copy_3 : decode cX1_copy 3 = .ok (.dup, 1) := dk_89 (dk_at dksX1_copy_0 3 rfl rfl)
theorem dX1_copy_4 : decode cX1_copy 4 = .ok (.invokespecial 29, 3) := dk_183 0 29 (dk_at dksX1_copy_0 4 rfl rfl)
theorem dX1_copy_7 : decode cX1_copy 7 = .ok (.astore_n 1, 1) := dk_76 (dk_at dksX1_copy_0 7 rfl rfl)
theorem dX1_copy_8 : decode cX1_copy 8 = .ok (.aload_n 1, 1) := dk_43 (dk_at dksX1_copy_0 8 rfl rfl)
theorem dX1_copy_9 : decode cX1_copy 9 = .ok (.aload_n 0, 1) := dk_42 (dk_at dksX1_copy_0 9 rfl rfl)
theorem dX1_copy_10 : decode cX1_copy 10 = .ok (.getfield 12, 3) := dk_180 0 12 (dk_at dksX1_copy_0 10 rfl rfl)
theorem dX1_copy_13 : decode cX1_copy 13 = .ok (.invokevirtual 30, 3) := dk_182 0 30 (dk_at dksX1_copy_0 13 rfl rfl)
theorem dX1_copy_16 : decode cX1_copy 16 = .ok (.putfield 12, 3) := dk_181 0 12 (dk_at dksX1_copy_0 16 rfl rfl)
theorem dX1_copy_19 : decode cX1_copy 19 = .ok (.aload_n 1, 1) := dk_43 (dk_at dksX1_copy_0 19 rfl rfl)
theorem dX1_copy_20 : decode cX1_copy 20 = .ok (.getfield 21, 3) := dk_180 0 21 (dk_at dksX1_copy_0 20 rfl rfl)
theorem dX1_copy_23 : decode cX1_copy 23 = .ok (.aload_n 0, 1) := dk_42 (dk_at dksX1_copy_0 23 rfl rfl)
theorem dX1_copy_24 : decode cX1_copy 24 = .ok (.getfield 21, 3) := dk_180 0 21 (dk_at dksX1_copy_1 0 rfl rfl)
theorem dX1_copy_27 : decode cX1_copy 27 = .ok (.invokeinterface 34 2, 5) := by decide +kernel
theorem dX1_copy_32 : decode cX1_copy 32 = .ok (.pop, 1) := dk_87 (dk_at dksX1_copy_1 8 rfl rfl)
theorem dX1_copy_33 : decode cX1_copy 33 = .ok (.aload_n 1, 1) := dk_43 (dk_at dksX1_copy_1 9 rfl rfl)
theorem dX1_copy_34 : decode cX1_copy 34 = .ok (.aload_n 0, 1) := dk_42 (dk_at dksX1_copy_1 10 rfl rfl)
theorem dX1_copy_35 : decode cX1_copy 35 = .ok (.getfield 25, 3) := dk_180 0 25 (dk_at dksX1_copy_1 11 rfl rfl)
theorem dX1_copy_38 : decode cX1_copy 38 = .ok (.putfield 25, 3) := dk_181 0 25 (dk_at dksX1_copy_1 14 rfl rfl)
theorem dX1_copy_41 : decode cX1_copy 41 = .ok (.aload_n 1, 1) := dk_43 (dk_at dksX1_copy_1 17 rfl rfl)
theorem dX1_copy_42 : decode cX1_copy 42 = .ok (.aload_n 0, 1) := dk_42 (dk_at dksX1_copy_1 18 rfl rfl)
theorem dX1_copy_43 : decode cX1_copy 43 = .ok (.getfield 40, 3) := dk_180 0 40 (dk_at dksX1_copy_1 19 rfl rfl)
theorem dX1_copy_46 : decode cX1_copy 46 = .ok (.putfield 40, 3) := dk_181 0 40 (dk_at dksX1_copy_2 0 rfl rfl)
theorem dX1_copy_49 : decode cX1_copy 49 = .ok (.aload_n 1, 1) := dk_43 (dk_at dksX1_copy_2 3 rfl rfl)
theorem dX1_copy_50 : decode cX1_copy 50 = .ok (.areturn, 1) := dk_176 (dk_at dksX1_copy_2 4 rfl rfl)
abbrev cX1_forget : ByteArray := prog_14_method_3_code
def yX1_forget : MethodName := ⟨RX1, "forget", "()V"⟩
def dkwX1_forget_0 : List UInt8 := [42, 180, 0, 21, 185, 0, 43, 1, 0, 42, 16, 251, 181, 0, 25, 177]
abbrev dktX1_forget_0 : List UInt8 := dkwX1_forget_0 ++ []
theorem dksX1_forget_0 : cX1_forget.data.toList.drop 0 = dktX1_forget_0 := by decide +kernel
theorem dX1_forget_0 : decode cX1_forget 0 = .ok (.aload_n 0, 1) := dk_42 (dk_at dksX1_forget_0 0 rfl rfl)
theorem dX1_forget_1 : decode cX1_forget 1 = .ok (.getfield 21, 3) := dk_180 0 21 (dk_at dksX1_forget_0 1 rfl rfl)
theorem dX1_forget_4 : decode cX1_forget 4 = .ok (.invokeinterface 43 1, 5) := by decide +kernel
theorem dX1_forget_9 : decode cX1_forget 9 = .ok (.aload_n 0, 1) := dk_42 (dk_at dksX1_forget_0 9 rfl rfl)
theorem dX1_forget_10 : decode cX1_forget 10 = .ok (.bipush (-5), 2) := dk_16 251 (dk_at dksX1_forget_0 10 rfl rfl)
theorem dX1_forget_12 : decode cX1_forget 12 = .ok (.putfield 25, 3) := dk_181 0 25 (dk_at dksX1_forget_0 12 rfl rfl)
theorem dX1_forget_15 : decode cX1_forget 15 = .ok (.return_, 1) := dk_177 (dk_at dksX1_forget_0 15 rfl rfl)
abbrev cX1_step : ByteArray := prog_14_method_12_code
def yX1_step : MethodName := ⟨RX1, "step", "()I"⟩
def dkwX1_step_7 : List UInt8 := [183, 0, 142, 185, 0, 145, 2, 0, 87, 28, 16, 251, 160, 0, 7, 4, 167, 0, 4, 3, 172]
abbrev dktX1_step_7 : List UInt8 := dkwX1_step_7 ++ []
def dkwX1_step_6 : List UInt8 := [180, 0, 21, 28, 16, 251, 160, 0, 11, 42, 27, 182, 0, 136, 167, 0, 11, 187, 0, 140, 89, 28]
abbrev dktX1_step_6 : List UInt8 := dkwX1_step_6 ++ dktX1_step_7
def dkwX1_step_5 : List UInt8 := [160, 0, 6, 16, 253, 172, 42, 89, 180, 0, 40, 4, 96, 181, 0, 40, 29, 153, 0, 5, 5, 172, 42]
abbrev dktX1_step_5 : List UInt8 := dkwX1_step_5 ++ dktX1_step_6
def dkwX1_step_4 : List UInt8 := [160, 0, 7, 4, 167, 0, 4, 3, 62, 29, 154, 0, 20, 42, 180, 0, 21, 185, 0, 46, 1, 0, 16, 40]
abbrev dktX1_step_4 : List UInt8 := dkwX1_step_4 ++ dktX1_step_5
def dkwX1_step_3 : List UInt8 := [27, 181, 0, 25, 28, 16, 251, 160, 0, 23, 42, 180, 0, 12, 27, 182, 0, 107, 42, 27, 182, 0, 133]
abbrev dktX1_step_3 : List UInt8 := dkwX1_step_3 ++ dktX1_step_4
def dkwX1_step_2 : List UInt8 := [180, 0, 25, 16, 251, 159, 0, 18, 42, 180, 0, 12, 27, 182, 0, 107, 42, 182, 0, 130, 162, 0, 8, 42]
abbrev dktX1_step_2 : List UInt8 := dkwX1_step_2 ++ dktX1_step_3
def dkwX1_step_1 : List UInt8 := [160, 0, 6, 16, 252, 172, 42, 180, 0, 12, 27, 182, 0, 127, 61, 28, 16, 251, 160, 0, 32, 42]
abbrev dktX1_step_1 : List UInt8 := dkwX1_step_1 ++ dktX1_step_2
def dkwX1_step_0 : List UInt8 := [42, 180, 0, 12, 180, 0, 110, 154, 0, 8, 16, 251, 167, 0, 7, 42, 182, 0, 124, 60, 27, 16, 251]
abbrev dktX1_step_0 : List UInt8 := dkwX1_step_0 ++ dktX1_step_1
theorem dksX1_step_0 : cX1_step.data.toList.drop 0 = dktX1_step_0 := by decide +kernel
theorem dksX1_step_1 : cX1_step.data.toList.drop 23 = dktX1_step_1 := dk_seg dksX1_step_0 23 rfl rfl
theorem dksX1_step_2 : cX1_step.data.toList.drop 45 = dktX1_step_2 := dk_seg dksX1_step_1 22 rfl rfl
theorem dksX1_step_3 : cX1_step.data.toList.drop 69 = dktX1_step_3 := dk_seg dksX1_step_2 24 rfl rfl
theorem dksX1_step_4 : cX1_step.data.toList.drop 92 = dktX1_step_4 := dk_seg dksX1_step_3 23 rfl rfl
theorem dksX1_step_5 : cX1_step.data.toList.drop 116 = dktX1_step_5 := dk_seg dksX1_step_4 24 rfl rfl
theorem dksX1_step_6 : cX1_step.data.toList.drop 139 = dktX1_step_6 := dk_seg dksX1_step_5 23 rfl rfl
theorem dksX1_step_7 : cX1_step.data.toList.drop 161 = dktX1_step_7 := dk_seg dksX1_step_6 22 rfl rfl
theorem dX1_step_0 : decode cX1_step 0 = .ok (.aload_n 0, 1) := dk_42 (dk_at dksX1_step_0 0 rfl rfl)
theorem dX1_step_1 : decode cX1_step 1 = .ok (.getfield 12, 3) := dk_180 0 12 (dk_at dksX1_step_0 1 rfl rfl)
theorem dX1_step_4 : decode cX1_step 4 = .ok (.getfield 110, 3) := dk_180 0 110 (dk_at dksX1_step_0 4 rfl rfl)
theorem dX1_step_7 : decode cX1_step 7 = .ok (.ifCond .ne 8, 3) := dk_154 0 8 (dk_at dksX1_step_0 7 rfl rfl)
theorem dX1_step_10 : decode cX1_step 10 = .ok (.bipush (-5), 2) := dk_16 251 (dk_at dksX1_step_0 10 rfl rfl)
theorem dX1_step_12 : decode cX1_step 12 = .ok (.goto 7, 3) := dk_167 0 7 (dk_at dksX1_step_0 12 rfl rfl)
theorem dX1_step_15 : decode cX1_step 15 = .ok (.aload_n 0, 1) := dk_42 (dk_at dksX1_step_0 15 rfl rfl)
theorem dX1_step_16 : decode cX1_step 16 = .ok (.invokevirtual 124, 3) := dk_182 0 124 (dk_at dksX1_step_0 16 rfl rfl)
theorem dX1_step_19 : decode cX1_step 19 = .ok (.istore_n 1, 1) := dk_60 (dk_at dksX1_step_0 19 rfl rfl)
theorem dX1_step_20 : decode cX1_step 20 = .ok (.iload_n 1, 1) := dk_27 (dk_at dksX1_step_0 20 rfl rfl)
theorem dX1_step_21 : decode cX1_step 21 = .ok (.bipush (-5), 2) := dk_16 251 (dk_at dksX1_step_0 21 rfl rfl)
theorem dX1_step_23 : decode cX1_step 23 = .ok (.if_icmp .ne 6, 3) := dk_160 0 6 (dk_at dksX1_step_1 0 rfl rfl)
theorem dX1_step_26 : decode cX1_step 26 = .ok (.bipush (-4), 2) := dk_16 252 (dk_at dksX1_step_1 3 rfl rfl)
theorem dX1_step_28 : decode cX1_step 28 = .ok (.ireturn, 1) := dk_172 (dk_at dksX1_step_1 5 rfl rfl)
theorem dX1_step_29 : decode cX1_step 29 = .ok (.aload_n 0, 1) := dk_42 (dk_at dksX1_step_1 6 rfl rfl)
theorem dX1_step_30 : decode cX1_step 30 = .ok (.getfield 12, 3) := dk_180 0 12 (dk_at dksX1_step_1 7 rfl rfl)
theorem dX1_step_33 : decode cX1_step 33 = .ok (.iload_n 1, 1) := dk_27 (dk_at dksX1_step_1 10 rfl rfl)
theorem dX1_step_34 : decode cX1_step 34 = .ok (.invokevirtual 127, 3) := dk_182 0 127 (dk_at dksX1_step_1 11 rfl rfl)
theorem dX1_step_37 : decode cX1_step 37 = .ok (.istore_n 2, 1) := dk_61 (dk_at dksX1_step_1 14 rfl rfl)
theorem dX1_step_38 : decode cX1_step 38 = .ok (.iload_n 2, 1) := dk_28 (dk_at dksX1_step_1 15 rfl rfl)
theorem dX1_step_39 : decode cX1_step 39 = .ok (.bipush (-5), 2) := dk_16 251 (dk_at dksX1_step_1 16 rfl rfl)
theorem dX1_step_41 : decode cX1_step 41 = .ok (.if_icmp .ne 32, 3) := dk_160 0 32 (dk_at dksX1_step_1 18 rfl rfl)
theorem dX1_step_44 : decode cX1_step 44 = .ok (.aload_n 0, 1) := dk_42 (dk_at dksX1_step_1 21 rfl rfl)
theorem dX1_step_45 : decode cX1_step 45 = .ok (.getfield 25, 3) := dk_180 0 25 (dk_at dksX1_step_2 0 rfl rfl)
theorem dX1_step_48 : decode cX1_step 48 = .ok (.bipush (-5), 2) := dk_16 251 (dk_at dksX1_step_2 3 rfl rfl)
theorem dX1_step_50 : decode cX1_step 50 = .ok (.if_icmp .eq 18, 3) := dk_159 0 18 (dk_at dksX1_step_2 5 rfl rfl)
theorem dX1_step_53 : decode cX1_step 53 = .ok (.aload_n 0, 1) := dk_42 (dk_at dksX1_step_2 8 rfl rfl)
theorem dX1_step_54 : decode cX1_step 54 = .ok (.getfield 12, 3) := dk_180 0 12 (dk_at dksX1_step_2 9 rfl rfl)
theorem dX1_step_57 : decode cX1_step 57 = .ok (.iload_n 1, 1) := dk_27 (dk_at dksX1_step_2 12 rfl rfl)
theorem dX1_step_58 : decode cX1_step 58 = .ok (.invokevirtual 107, 3) := dk_182 0 107 (dk_at dksX1_step_2 13 rfl rfl)
theorem dX1_step_61 : decode cX1_step 61 = .ok (.aload_n 0, 1) := dk_42 (dk_at dksX1_step_2 16 rfl rfl)
theorem dX1_step_62 : decode cX1_step 62 = .ok (.invokevirtual 130, 3) := dk_182 0 130 (dk_at dksX1_step_2 17 rfl rfl)
theorem dX1_step_65 : decode cX1_step 65 = .ok (.if_icmp .ge 8, 3) := dk_162 0 8 (dk_at dksX1_step_2 20 rfl rfl)
theorem dX1_step_68 : decode cX1_step 68 = .ok (.aload_n 0, 1) := dk_42 (dk_at dksX1_step_2 23 rfl rfl)
theorem dX1_step_69 : decode cX1_step 69 = .ok (.iload_n 1, 1) := dk_27 (dk_at dksX1_step_3 0 rfl rfl)
theorem dX1_step_70 : decode cX1_step 70 = .ok (.putfield 25, 3) := dk_181 0 25 (dk_at dksX1_step_3 1 rfl rfl)
theorem dX1_step_73 : decode cX1_step 73 = .ok (.iload_n 2, 1) := dk_28 (dk_at dksX1_step_3 4 rfl rfl)
theorem dX1_step_74 : decode cX1_step 74 = .ok (.bipush (-5), 2) := dk_16 251 (dk_at dksX1_step_3 5 rfl rfl)
theorem dX1_step_76 : decode cX1_step 76 = .ok (.if_icmp .ne 23, 3) := dk_160 0 23 (dk_at dksX1_step_3 7 rfl rfl)
theorem dX1_step_79 : decode cX1_step 79 = .ok (.aload_n 0, 1) := dk_42 (dk_at dksX1_step_3 10 rfl rfl)
theorem dX1_step_80 : decode cX1_step 80 = .ok (.getfield 12, 3) := dk_180 0 12 (dk_at dksX1_step_3 11 rfl rfl)
theorem dX1_step_83 : decode cX1_step 83 = .ok (.iload_n 1, 1) := dk_27 (dk_at dksX1_step_3 14 rfl rfl)
theorem dX1_step_84 : decode cX1_step 84 = .ok (.invokevirtual 107, 3) := dk_182 0 107 (dk_at dksX1_step_3 15 rfl rfl)
theorem dX1_step_87 : decode cX1_step 87 = .ok (.aload_n 0, 1) := dk_42 (dk_at dksX1_step_3 18 rfl rfl)
theorem dX1_step_88 : decode cX1_step 88 = .ok (.iload_n 1, 1) := dk_27 (dk_at dksX1_step_3 19 rfl rfl)
theorem dX1_step_89 : decode cX1_step 89 = .ok (.invokevirtual 133, 3) := dk_182 0 133 (dk_at dksX1_step_3 20 rfl rfl)
theorem dX1_step_92 : decode cX1_step 92 = .ok (.if_icmp .ne 7, 3) := dk_160 0 7 (dk_at dksX1_step_4 0 rfl rfl)
theorem dX1_step_95 : decode cX1_step 95 = .ok (.iconst 1, 1) := dk_4 (dk_at dksX1_step_4 3 rfl rfl)
theorem dX1_step_96 : decode cX1_step 96 = .ok (.goto 4, 3) := dk_167 0 4 (dk_at dksX1_step_4 4 rfl rfl)
theorem dX1_step_99 : decode cX1_step 99 = .ok (.iconst 0, 1) := dk_3 (dk_at dksX1_step_4 7 rfl rfl)
theorem dX1_step_100 : decode cX1_step 100 = .ok (.istore_n 3, 1) := dk_62 (dk_at dksX1_step_4 8 rfl rfl)
theorem dX1_step_101 : decode cX1_step 101 = .ok (.iload_n 3, 1) := dk_29 (dk_at dksX1_step_4 9 rfl rfl)
theorem dX1_step_102 : decode cX1_step 102 = .ok (.ifCond .ne 20, 3) := dk_154 0 20 (dk_at dksX1_step_4 10 rfl rfl)
theorem dX1_step_105 : decode cX1_step 105 = .ok (.aload_n 0, 1) := dk_42 (dk_at dksX1_step_4 13 rfl rfl)
theorem dX1_step_106 : decode cX1_step 106 = .ok (.getfield 21, 3) := dk_180 0 21 (dk_at dksX1_step_4 14 rfl rfl)
theorem dX1_step_109 : decode cX1_step 109 = .ok (.invokeinterface 46 1, 5) := by decide +kernel
theorem dX1_step_114 : decode cX1_step 114 = .ok (.bipush 40, 2) := dk_16 40 (dk_at dksX1_step_4 22 rfl rfl)
theorem dX1_step_116 : decode cX1_step 116 = .ok (.if_icmp .ne 6, 3) := dk_160 0 6 (dk_at dksX1_step_5 0 rfl rfl)
theorem dX1_step_119 : decode cX1_step 119 = .ok (.bipush (-3), 2) := dk_16 253 (dk_at dksX1_step_5 3 rfl rfl)
theorem dX1_step_121 : decode cX1_step 121 = .ok (.ireturn, 1) := dk_172 (dk_at dksX1_step_5 5 rfl rfl)
theorem dX1_step_122 : decode cX1_step 122 = .ok (.aload_n 0, 1) := dk_42 (dk_at dksX1_step_5 6 rfl rfl)
theorem dX1_step_123 : decode cX1_step 123 = .ok (.dup, 1) := dk_89 (dk_at dksX1_step_5 7 rfl rfl)
theorem dX1_step_124 : decode cX1_step 124 = .ok (.getfield 40, 3) := dk_180 0 40 (dk_at dksX1_step_5 8 rfl rfl)
theorem dX1_step_127 : decode cX1_step 127 = .ok (.iconst 1, 1) := dk_4 (dk_at dksX1_step_5 11 rfl rfl)
theorem dX1_step_128 : decode cX1_step 128 = .ok (.iadd, 1) := dk_96 (dk_at dksX1_step_5 12 rfl rfl)
theorem dX1_step_129 : decode cX1_step 129 = .ok (.putfield 40, 3) := dk_181 0 40 (dk_at dksX1_step_5 13 rfl rfl)
theorem dX1_step_132 : decode cX1_step 132 = .ok (.iload_n 3, 1) := dk_29 (dk_at dksX1_step_5 16 rfl rfl)
theorem dX1_step_133 : decode cX1_step 133 = .ok (.ifCond .eq 5, 3) := dk_153 0 5 (dk_at dksX1_step_5 17 rfl rfl)
theorem dX1_step_136 : decode cX1_step 136 = .ok (.iconst 2, 1) := dk_5 (dk_at dksX1_step_5 20 rfl rfl)
theorem dX1_step_137 : decode cX1_step 137 = .ok (.ireturn, 1) := dk_172 (dk_at dksX1_step_5 21 rfl rfl)
theorem dX1_step_138 : decode cX1_step 138 = .ok (.aload_n 0, 1) := dk_42 (dk_at dksX1_step_5 22 rfl rfl)
theorem dX1_step_139 : decode cX1_step 139 = .ok (.getfield 21, 3) := dk_180 0 21 (dk_at dksX1_step_6 0 rfl rfl)
theorem dX1_step_142 : decode cX1_step 142 = .ok (.iload_n 2, 1) := dk_28 (dk_at dksX1_step_6 3 rfl rfl)
theorem dX1_step_143 : decode cX1_step 143 = .ok (.bipush (-5), 2) := dk_16 251 (dk_at dksX1_step_6 4 rfl rfl)
theorem dX1_step_145 : decode cX1_step 145 = .ok (.if_icmp .ne 11, 3) := dk_160 0 11 (dk_at dksX1_step_6 6 rfl rfl)
theorem dX1_step_148 : decode cX1_step 148 = .ok (.aload_n 0, 1) := dk_42 (dk_at dksX1_step_6 9 rfl rfl)
theorem dX1_step_149 : decode cX1_step 149 = .ok (.iload_n 1, 1) := dk_27 (dk_at dksX1_step_6 10 rfl rfl)
theorem dX1_step_150 : decode cX1_step 150 = .ok (.invokevirtual 136, 3) := dk_182 0 136 (dk_at dksX1_step_6 11 rfl rfl)
theorem dX1_step_153 : decode cX1_step 153 = .ok (.goto 11, 3) := dk_167 0 11 (dk_at dksX1_step_6 14 rfl rfl)
theorem dX1_step_156 : decode cX1_step 156 = .ok (.new 140, 3) := dk_187 0 140 (dk_at dksX1_step_6 17 rfl rfl)
theorem dX1_step_159 : decode cX1_step 159 = .ok (.dup, 1) := dk_89 (dk_at dksX1_step_6 20 rfl rfl)
theorem dX1_step_160 : decode cX1_step 160 = .ok (.iload_n 2, 1) := dk_28 (dk_at dksX1_step_6 21 rfl rfl)
theorem dX1_step_161 : decode cX1_step 161 = .ok (.invokespecial 142, 3) := dk_183 0 142 (dk_at dksX1_step_7 0 rfl rfl)
theorem dX1_step_164 : decode cX1_step 164 = .ok (.invokeinterface 145 2, 5) := by decide +kernel
theorem dX1_step_169 : decode cX1_step 169 = .ok (.pop, 1) := dk_87 (dk_at dksX1_step_7 8 rfl rfl)
theorem dX1_step_170 : decode cX1_step 170 = .ok (.iload_n 2, 1) := dk_28 (dk_at dksX1_step_7 9 rfl rfl)
theorem dX1_step_171 : decode cX1_step 171 = .ok (.bipush (-5), 2) := dk_16 251 (dk_at dksX1_step_7 10 rfl rfl)
theorem dX1_step_173 : decode cX1_step 173 = .ok (.if_icmp .ne 7, 3) := dk_160 0 7 (dk_at dksX1_step_7 12 rfl rfl)
theorem dX1_step_176 : decode cX1_step 176 = .ok (.iconst 1, 1) := dk_4 (dk_at dksX1_step_7 15 rfl rfl)
theorem dX1_step_177 : decode cX1_step 177 = .ok (.goto 4, 3) := dk_167 0 4 (dk_at dksX1_step_7 16 rfl rfl)
theorem dX1_step_180 : decode cX1_step 180 = .ok (.iconst 0, 1) := dk_3 (dk_at dksX1_step_7 19 rfl rfl)
theorem dX1_step_181 : decode cX1_step 181 = .ok (.ireturn, 1) := dk_172 (dk_at dksX1_step_7 20 rfl rfl)
abbrev cX1_master : ByteArray := prog_14_method_8_code
def yX1_master : MethodName := ⟨RX1, "master", "()I"⟩
def dkwX1_master_0 : List UInt8 := [42, 42, 186, 0, 95, 0, 0, 42, 186, 0, 98, 0, 0, 182, 0, 101, 172]
abbrev dktX1_master_0 : List UInt8 := dkwX1_master_0 ++ []
theorem dksX1_master_0 : cX1_master.data.toList.drop 0 = dktX1_master_0 := by decide +kernel
theorem dX1_master_0 : decode cX1_master 0 = .ok (.aload_n 0, 1) := dk_42 (dk_at dksX1_master_0 0 rfl rfl)
theorem dX1_master_1 : decode cX1_master 1 = .ok (.aload_n 0, 1) := dk_42 (dk_at dksX1_master_0 1 rfl rfl)
theorem dX1_master_2 : decode cX1_master 2 = .ok (.invokedynamic 95, 5) := by decide +kernel
theorem dX1_master_7 : decode cX1_master 7 = .ok (.aload_n 0, 1) := dk_42 (dk_at dksX1_master_0 7 rfl rfl)
theorem dX1_master_8 : decode cX1_master 8 = .ok (.invokedynamic 98, 5) := by decide +kernel
theorem dX1_master_13 : decode cX1_master 13 = .ok (.invokevirtual 101, 3) := dk_182 0 101 (dk_at dksX1_master_0 13 rfl rfl)
theorem dX1_master_16 : decode cX1_master 16 = .ok (.ireturn, 1) := dk_172 (dk_at dksX1_master_0 16 rfl rfl)
abbrev cX1_lambda_master_0 : ByteArray := prog_14_method_18_code
def yX1_lambda_master_0 : MethodName := ⟨RX1, "lambda$master$0", "(I)Z"⟩
def dkwX1_lambda_master_0_1 : List UInt8 := [172]
abbrev dktX1_lambda_master_0_1 : List UInt8 := dkwX1_lambda_master_0_1 ++ []
def dkwX1_lambda_master_0_0 : List UInt8 := [42, 180, 0, 12, 27, 182, 0, 156, 153, 0, 15, 42, 27, 182, 0, 159, 154, 0, 7, 4, 167, 0, 4, 3]
abbrev dktX1_lambda_master_0_0 : List UInt8 := dkwX1_lambda_master_0_0 ++ dktX1_lambda_master_0_1
theorem dksX1_lambda_master_0_0 : cX1_lambda_master_0.data.toList.drop 0 = dktX1_lambda_master_0_0 := by decide +kernel
theorem dksX1_lambda_master_0_1 : cX1_lambda_master_0.data.toList.drop 24 = dktX1_lambda_master_0_1 := dk_seg dksX1_lambda_master_0_0 24 rfl rfl
theorem dX1_lambda_master_0_0 : decode cX1_lambda_master_0 0 = .ok (.aload_n 0, 1) := dk_42 (dk_at dksX1_lambda_master_0_0 0 rfl rfl)
theorem dX1_lambda_master_0_1 : decode cX1_lambda_master_0 1 = .ok (.getfield 12, 3) := dk_180 0 12 (dk_at dksX1_lambda_master_0_0 1 rfl rfl)
theorem dX1_lambda_master_0_4 : decode cX1_lambda_master_0 4 = .ok (.iload_n 1, 1) := dk_27 (dk_at dksX1_lambda_master_0_0 4 rfl rfl)
theorem dX1_lambda_master_0_5 : decode cX1_lambda_master_0 5 = .ok (.invokevirtual 156, 3) := dk_182 0 156 (dk_at dksX1_lambda_master_0_0 5 rfl rfl)
theorem dX1_lambda_master_0_8 : decode cX1_lambda_master_0 8 = .ok (.ifCond .eq 15, 3) := dk_153 0 15 (dk_at dksX1_lambda_master_0_0 8 rfl rfl)
theorem dX1_lambda_master_0_11 : decode cX1_lambda_master_0 11 = .ok (.aload_n 0, 1) := dk_42 (dk_at dksX1_lambda_master_0_0 11 rfl rfl)
theorem dX1_lambda_master_0_12 : decode cX1_lambda_master_0 12 = .ok (.iload_n 1, 1) := dk_27 (dk_at dksX1_lambda_master_0_0 12 rfl rfl)
theorem dX1_lambda_master_0_13 : decode cX1_lambda_master_0 13 = .ok (.invokevirtual 159, 3) := dk_182 0 159 (dk_at dksX1_lambda_master_0_0 13 rfl rfl)
theorem dX1_lambda_master_0_16 : decode cX1_lambda_master_0 16 = .ok (.ifCond .ne 7, 3) := dk_154 0 7 (dk_at dksX1_lambda_master_0_0 16 rfl rfl)
theorem dX1_lambda_master_0_19 : decode cX1_lambda_master_0 19 = .ok (.iconst 1, 1) := dk_4 (dk_at dksX1_lambda_master_0_0 19 rfl rfl)
theorem dX1_lambda_master_0_20 : decode cX1_lambda_master_0 20 = .ok (.goto 4, 3) := dk_167 0 4 (dk_at dksX1_lambda_master_0_0 20 rfl rfl)
theorem dX1_lambda_master_0_23 : decode cX1_lambda_master_0 23 = .ok (.iconst 0, 1) := dk_3 (dk_at dksX1_lambda_master_0_0 23 rfl rfl)
theorem dX1_lambda_master_0_24 : decode cX1_lambda_master_0 24 = .ok (.ireturn, 1) := dk_172 (dk_at dksX1_lambda_master_0_1 0 rfl rfl)
abbrev cX1_broken : ByteArray := prog_14_method_6_code
def yX1_broken : MethodName := ⟨RX1, "broken", "(I)I"⟩
def dkwX1_broken_3 : List UInt8 := [167, 255, 189, 28, 172]
abbrev dktX1_broken_3 : List UInt8 := dkwX1_broken_3 ++ []
def dkwX1_broken_2 : List UInt8 := [192, 0, 54, 42, 180, 0, 12, 27, 182, 0, 77, 153, 0, 7, 4, 167, 0, 4, 3, 96, 61, 132, 3, 1]
abbrev dktX1_broken_2 : List UInt8 := dkwX1_broken_2 ++ dktX1_broken_3
def dkwX1_broken_1 : List UInt8 := [185, 0, 50, 2, 0, 192, 0, 54, 182, 0, 56, 153, 0, 31, 42, 180, 0, 21, 29, 185, 0, 50, 2, 0]
abbrev dktX1_broken_1 : List UInt8 := dkwX1_broken_1 ++ dktX1_broken_2
def dkwX1_broken_0 : List UInt8 := [3, 61, 3, 62, 29, 42, 180, 0, 21, 185, 0, 46, 1, 0, 162, 0, 60, 28, 42, 180, 0, 21, 29]
abbrev dktX1_broken_0 : List UInt8 := dkwX1_broken_0 ++ dktX1_broken_1
theorem dksX1_broken_0 : cX1_broken.data.toList.drop 0 = dktX1_broken_0 := by decide +kernel
theorem dksX1_broken_1 : cX1_broken.data.toList.drop 23 = dktX1_broken_1 := dk_seg dksX1_broken_0 23 rfl rfl
theorem dksX1_broken_2 : cX1_broken.data.toList.drop 47 = dktX1_broken_2 := dk_seg dksX1_broken_1 24 rfl rfl
theorem dksX1_broken_3 : cX1_broken.data.toList.drop 71 = dktX1_broken_3 := dk_seg dksX1_broken_2 24 rfl rfl
theorem dX1_broken_0 : decode cX1_broken 0 = .ok (.iconst 0, 1) := dk_3 (dk_at dksX1_broken_0 0 rfl rfl)
theorem dX1_broken_1 : decode cX1_broken 1 = .ok (.istore_n 2, 1) := dk_61 (dk_at dksX1_broken_0 1 rfl rfl)
theorem dX1_broken_2 : decode cX1_broken 2 = .ok (.iconst 0, 1) := dk_3 (dk_at dksX1_broken_0 2 rfl rfl)
theorem dX1_broken_3 : decode cX1_broken 3 = .ok (.istore_n 3, 1) := dk_62 (dk_at dksX1_broken_0 3 rfl rfl)
theorem dX1_broken_4 : decode cX1_broken 4 = .ok (.iload_n 3, 1) := dk_29 (dk_at dksX1_broken_0 4 rfl rfl)
theorem dX1_broken_5 : decode cX1_broken 5 = .ok (.aload_n 0, 1) := dk_42 (dk_at dksX1_broken_0 5 rfl rfl)
theorem dX1_broken_6 : decode cX1_broken 6 = .ok (.getfield 21, 3) := dk_180 0 21 (dk_at dksX1_broken_0 6 rfl rfl)
theorem dX1_broken_9 : decode cX1_broken 9 = .ok (.invokeinterface 46 1, 5) := by decide +kernel
theorem dX1_broken_14 : decode cX1_broken 14 = .ok (.if_icmp .ge 60, 3) := dk_162 0 60 (dk_at dksX1_broken_0 14 rfl rfl)
theorem dX1_broken_17 : decode cX1_broken 17 = .ok (.iload_n 2, 1) := dk_28 (dk_at dksX1_broken_0 17 rfl rfl)
theorem dX1_broken_18 : decode cX1_broken 18 = .ok (.aload_n 0, 1) := dk_42 (dk_at dksX1_broken_0 18 rfl rfl)
theorem dX1_broken_19 : decode cX1_broken 19 = .ok (.getfield 21, 3) := dk_180 0 21 (dk_at dksX1_broken_0 19 rfl rfl)
theorem dX1_broken_22 : decode cX1_broken 22 = .ok (.iload_n 3, 1) := dk_29 (dk_at dksX1_broken_0 22 rfl rfl)
theorem dX1_broken_23 : decode cX1_broken 23 = .ok (.invokeinterface 50 2, 5) := by decide +kernel
theorem dX1_broken_28 : decode cX1_broken 28 = .ok (.checkcast 54, 3) := dk_192 0 54 (dk_at dksX1_broken_1 5 rfl rfl)
theorem dX1_broken_31 : decode cX1_broken 31 = .ok (.invokevirtual 56, 3) := dk_182 0 56 (dk_at dksX1_broken_1 8 rfl rfl)
theorem dX1_broken_34 : decode cX1_broken 34 = .ok (.ifCond .eq 31, 3) := dk_153 0 31 (dk_at dksX1_broken_1 11 rfl rfl)
theorem dX1_broken_37 : decode cX1_broken 37 = .ok (.aload_n 0, 1) := dk_42 (dk_at dksX1_broken_1 14 rfl rfl)
theorem dX1_broken_38 : decode cX1_broken 38 = .ok (.getfield 21, 3) := dk_180 0 21 (dk_at dksX1_broken_1 15 rfl rfl)
theorem dX1_broken_41 : decode cX1_broken 41 = .ok (.iload_n 3, 1) := dk_29 (dk_at dksX1_broken_1 18 rfl rfl)
theorem dX1_broken_42 : decode cX1_broken 42 = .ok (.invokeinterface 50 2, 5) := by decide +kernel
theorem dX1_broken_47 : decode cX1_broken 47 = .ok (.checkcast 54, 3) := dk_192 0 54 (dk_at dksX1_broken_2 0 rfl rfl)
theorem dX1_broken_50 : decode cX1_broken 50 = .ok (.aload_n 0, 1) := dk_42 (dk_at dksX1_broken_2 3 rfl rfl)
theorem dX1_broken_51 : decode cX1_broken 51 = .ok (.getfield 12, 3) := dk_180 0 12 (dk_at dksX1_broken_2 4 rfl rfl)
theorem dX1_broken_54 : decode cX1_broken 54 = .ok (.iload_n 1, 1) := dk_27 (dk_at dksX1_broken_2 7 rfl rfl)
theorem dX1_broken_55 : decode cX1_broken 55 = .ok (.invokevirtual 77, 3) := dk_182 0 77 (dk_at dksX1_broken_2 8 rfl rfl)
theorem dX1_broken_58 : decode cX1_broken 58 = .ok (.ifCond .eq 7, 3) := dk_153 0 7 (dk_at dksX1_broken_2 11 rfl rfl)
theorem dX1_broken_61 : decode cX1_broken 61 = .ok (.iconst 1, 1) := dk_4 (dk_at dksX1_broken_2 14 rfl rfl)
theorem dX1_broken_62 : decode cX1_broken 62 = .ok (.goto 4, 3) := dk_167 0 4 (dk_at dksX1_broken_2 15 rfl rfl)
theorem dX1_broken_65 : decode cX1_broken 65 = .ok (.iconst 0, 1) := dk_3 (dk_at dksX1_broken_2 18 rfl rfl)
theorem dX1_broken_66 : decode cX1_broken 66 = .ok (.iadd, 1) := dk_96 (dk_at dksX1_broken_2 19 rfl rfl)
theorem dX1_broken_67 : decode cX1_broken 67 = .ok (.istore_n 2, 1) := dk_61 (dk_at dksX1_broken_2 20 rfl rfl)
theorem dX1_broken_68 : decode cX1_broken 68 = .ok (.iinc 3 1, 3) := dk_132 3 1 (dk_at dksX1_broken_2 21 rfl rfl)
theorem dX1_broken_71 : decode cX1_broken 71 = .ok (.goto (-67), 3) := dk_167 255 189 (dk_at dksX1_broken_3 0 rfl rfl)
theorem dX1_broken_74 : decode cX1_broken 74 = .ok (.iload_n 2, 1) := dk_28 (dk_at dksX1_broken_3 3 rfl rfl)
theorem dX1_broken_75 : decode cX1_broken 75 = .ok (.ireturn, 1) := dk_172 (dk_at dksX1_broken_3 4 rfl rfl)
abbrev cX1_lambda_master_1 : ByteArray := prog_14_method_17_code
def yX1_lambda_master_1 : MethodName := ⟨RX1, "lambda$master$1", "(I)I"⟩
def dkwX1_lambda_master_1_0 : List UInt8 := [42, 27, 182, 0, 133, 172]
abbrev dktX1_lambda_master_1_0 : List UInt8 := dkwX1_lambda_master_1_0 ++ []
theorem dksX1_lambda_master_1_0 : cX1_lambda_master_1.data.toList.drop 0 = dktX1_lambda_master_1_0 := by decide +kernel
theorem dX1_lambda_master_1_0 : decode cX1_lambda_master_1 0 = .ok (.aload_n 0, 1) := dk_42 (dk_at dksX1_lambda_master_1_0 0 rfl rfl)
theorem dX1_lambda_master_1_1 : decode cX1_lambda_master_1 1 = .ok (.iload_n 1, 1) := dk_27 (dk_at dksX1_lambda_master_1_0 1 rfl rfl)
theorem dX1_lambda_master_1_2 : decode cX1_lambda_master_1 2 = .ok (.invokevirtual 133, 3) := dk_182 0 133 (dk_at dksX1_lambda_master_1_0 2 rfl rfl)
theorem dX1_lambda_master_1_5 : decode cX1_lambda_master_1 5 = .ok (.ireturn, 1) := dk_172 (dk_at dksX1_lambda_master_1_0 5 rfl rfl)
abbrev cX1_guess : ByteArray := prog_14_method_5_code
def yX1_guess : MethodName := ⟨RX1, "guess", "(I)I"⟩
def dkwX1_guess_0 : List UInt8 := [42, 180, 0, 12, 27, 182, 0, 70, 42, 27, 182, 0, 74, 96, 172]
abbrev dktX1_guess_0 : List UInt8 := dkwX1_guess_0 ++ []
theorem dksX1_guess_0 : cX1_guess.data.toList.drop 0 = dktX1_guess_0 := by decide +kernel
theorem dX1_guess_0 : decode cX1_guess 0 = .ok (.aload_n 0, 1) := dk_42 (dk_at dksX1_guess_0 0 rfl rfl)
theorem dX1_guess_1 : decode cX1_guess 1 = .ok (.getfield 12, 3) := dk_180 0 12 (dk_at dksX1_guess_0 1 rfl rfl)
theorem dX1_guess_4 : decode cX1_guess 4 = .ok (.iload_n 1, 1) := dk_27 (dk_at dksX1_guess_0 4 rfl rfl)
theorem dX1_guess_5 : decode cX1_guess 5 = .ok (.invokevirtual 70, 3) := dk_182 0 70 (dk_at dksX1_guess_0 5 rfl rfl)
theorem dX1_guess_8 : decode cX1_guess 8 = .ok (.aload_n 0, 1) := dk_42 (dk_at dksX1_guess_0 8 rfl rfl)
theorem dX1_guess_9 : decode cX1_guess 9 = .ok (.iload_n 1, 1) := dk_27 (dk_at dksX1_guess_0 9 rfl rfl)
theorem dX1_guess_10 : decode cX1_guess 10 = .ok (.invokevirtual 74, 3) := dk_182 0 74 (dk_at dksX1_guess_0 10 rfl rfl)
theorem dX1_guess_13 : decode cX1_guess 13 = .ok (.iadd, 1) := dk_96 (dk_at dksX1_guess_0 13 rfl rfl)
theorem dX1_guess_14 : decode cX1_guess 14 = .ok (.ireturn, 1) := dk_172 (dk_at dksX1_guess_0 14 rfl rfl)
abbrev cX1_guessAbove : ByteArray := prog_14_method_4_code
def yX1_guessAbove : MethodName := ⟨RX1, "guessAbove", "(I)I"⟩
def dkwX1_guessAbove_3 : List UInt8 := [167, 255, 195, 28, 172]
abbrev dktX1_guessAbove_3 : List UInt8 := dkwX1_guessAbove_3 ++ []
def dkwX1_guessAbove_2 : List UInt8 := [185, 0, 50, 2, 0, 192, 0, 54, 42, 180, 0, 12, 27, 182, 0, 60, 184, 0, 64, 61, 132, 3, 1]
abbrev dktX1_guessAbove_2 : List UInt8 := dkwX1_guessAbove_2 ++ dktX1_guessAbove_3
def dkwX1_guessAbove_1 : List UInt8 := [185, 0, 50, 2, 0, 192, 0, 54, 182, 0, 56, 154, 0, 29, 28, 42, 180, 0, 21, 29]
abbrev dktX1_guessAbove_1 : List UInt8 := dkwX1_guessAbove_1 ++ dktX1_guessAbove_2
def dkwX1_guessAbove_0 : List UInt8 := [3, 61, 3, 62, 29, 42, 180, 0, 21, 185, 0, 46, 1, 0, 162, 0, 54, 42, 180, 0, 21, 29]
abbrev dktX1_guessAbove_0 : List UInt8 := dkwX1_guessAbove_0 ++ dktX1_guessAbove_1
theorem dksX1_guessAbove_0 : cX1_guessAbove.data.toList.drop 0 = dktX1_guessAbove_0 := by decide +kernel
theorem dksX1_guessAbove_1 : cX1_guessAbove.data.toList.drop 22 = dktX1_guessAbove_1 := dk_seg dksX1_guessAbove_0 22 rfl rfl
theorem dksX1_guessAbove_2 : cX1_guessAbove.data.toList.drop 42 = dktX1_guessAbove_2 := dk_seg dksX1_guessAbove_1 20 rfl rfl
theorem dksX1_guessAbove_3 : cX1_guessAbove.data.toList.drop 65 = dktX1_guessAbove_3 := dk_seg dksX1_guessAbove_2 23 rfl rfl
theorem dX1_guessAbove_0 : decode cX1_guessAbove 0 = .ok (.iconst 0, 1) := dk_3 (dk_at dksX1_guessAbove_0 0 rfl rfl)
theorem dX1_guessAbove_1 : decode cX1_guessAbove 1 = .ok (.istore_n 2, 1) := dk_61 (dk_at dksX1_guessAbove_0 1 rfl rfl)
theorem dX1_guessAbove_2 : decode cX1_guessAbove 2 = .ok (.iconst 0, 1) := dk_3 (dk_at dksX1_guessAbove_0 2 rfl rfl)
theorem dX1_guessAbove_3 : decode cX1_guessAbove 3 = .ok (.istore_n 3, 1) := dk_62 (dk_at dksX1_guessAbove_0 3 rfl rfl)
theorem dX1_guessAbove_4 : decode cX1_guessAbove 4 = .ok (.iload_n 3, 1) := dk_29 (dk_at dksX1_guessAbove_0 4 rfl rfl)
theorem dX1_guessAbove_5 : decode cX1_guessAbove 5 = .ok (.aload_n 0, 1) := dk_42 (dk_at dksX1_guessAbove_0 5 rfl rfl)
theorem dX1_guessAbove_6 : decode cX1_guessAbove 6 = .ok (.getfield 21, 3) := dk_180 0 21 (dk_at dksX1_guessAbove_0 6 rfl rfl)
theorem dX1_guessAbove_9 : decode cX1_guessAbove 9 = .ok (.invokeinterface 46 1, 5) := by decide +kernel
theorem dX1_guessAbove_14 : decode cX1_guessAbove 14 = .ok (.if_icmp .ge 54, 3) := dk_162 0 54 (dk_at dksX1_guessAbove_0 14 rfl rfl)
theorem dX1_guessAbove_17 : decode cX1_guessAbove 17 = .ok (.aload_n 0, 1) := dk_42 (dk_at dksX1_guessAbove_0 17 rfl rfl)
theorem dX1_guessAbove_18 : decode cX1_guessAbove 18 = .ok (.getfield 21, 3) := dk_180 0 21 (dk_at dksX1_guessAbove_0 18 rfl rfl)
theorem dX1_guessAbove_21 : decode cX1_guessAbove 21 = .ok (.iload_n 3, 1) := dk_29 (dk_at dksX1_guessAbove_0 21 rfl rfl)
theorem dX1_guessAbove_22 : decode cX1_guessAbove 22 = .ok (.invokeinterface 50 2, 5) := by decide +kernel
theorem dX1_guessAbove_27 : decode cX1_guessAbove 27 = .ok (.checkcast 54, 3) := dk_192 0 54 (dk_at dksX1_guessAbove_1 5 rfl rfl)
theorem dX1_guessAbove_30 : decode cX1_guessAbove 30 = .ok (.invokevirtual 56, 3) := dk_182 0 56 (dk_at dksX1_guessAbove_1 8 rfl rfl)
theorem dX1_guessAbove_33 : decode cX1_guessAbove 33 = .ok (.ifCond .ne 29, 3) := dk_154 0 29 (dk_at dksX1_guessAbove_1 11 rfl rfl)
theorem dX1_guessAbove_36 : decode cX1_guessAbove 36 = .ok (.iload_n 2, 1) := dk_28 (dk_at dksX1_guessAbove_1 14 rfl rfl)
theorem dX1_guessAbove_37 : decode cX1_guessAbove 37 = .ok (.aload_n 0, 1) := dk_42 (dk_at dksX1_guessAbove_1 15 rfl rfl)
theorem dX1_guessAbove_38 : decode cX1_guessAbove 38 = .ok (.getfield 21, 3) := dk_180 0 21 (dk_at dksX1_guessAbove_1 16 rfl rfl)
theorem dX1_guessAbove_41 : decode cX1_guessAbove 41 = .ok (.iload_n 3, 1) := dk_29 (dk_at dksX1_guessAbove_1 19 rfl rfl)
theorem dX1_guessAbove_42 : decode cX1_guessAbove 42 = .ok (.invokeinterface 50 2, 5) := by decide +kernel
theorem dX1_guessAbove_47 : decode cX1_guessAbove 47 = .ok (.checkcast 54, 3) := dk_192 0 54 (dk_at dksX1_guessAbove_2 5 rfl rfl)
theorem dX1_guessAbove_50 : decode cX1_guessAbove 50 = .ok (.aload_n 0, 1) := dk_42 (dk_at dksX1_guessAbove_2 8 rfl rfl)
theorem dX1_guessAbove_51 : decode cX1_guessAbove 51 = .ok (.getfield 12, 3) := dk_180 0 12 (dk_at dksX1_guessAbove_2 9 rfl rfl)
theorem dX1_guessAbove_54 : decode cX1_guessAbove 54 = .ok (.iload_n 1, 1) := dk_27 (dk_at dksX1_guessAbove_2 12 rfl rfl)
theorem dX1_guessAbove_55 : decode cX1_guessAbove 55 = .ok (.invokevirtual 60, 3) := dk_182 0 60 (dk_at dksX1_guessAbove_2 13 rfl rfl)
theorem dX1_guessAbove_58 : decode cX1_guessAbove 58 = .ok (.invokestatic 64, 3) := dk_184 0 64 (dk_at dksX1_guessAbove_2 16 rfl rfl)
theorem dX1_guessAbove_61 : decode cX1_guessAbove 61 = .ok (.istore_n 2, 1) := dk_61 (dk_at dksX1_guessAbove_2 19 rfl rfl)
theorem dX1_guessAbove_62 : decode cX1_guessAbove 62 = .ok (.iinc 3 1, 3) := dk_132 3 1 (dk_at dksX1_guessAbove_2 20 rfl rfl)
theorem dX1_guessAbove_65 : decode cX1_guessAbove 65 = .ok (.goto (-61), 3) := dk_167 255 195 (dk_at dksX1_guessAbove_3 0 rfl rfl)
theorem dX1_guessAbove_68 : decode cX1_guessAbove 68 = .ok (.iload_n 2, 1) := dk_28 (dk_at dksX1_guessAbove_3 3 rfl rfl)
theorem dX1_guessAbove_69 : decode cX1_guessAbove 69 = .ok (.ireturn, 1) := dk_172 (dk_at dksX1_guessAbove_3 4 rfl rfl)
abbrev cX1_least : ByteArray := prog_14_method_7_code
def yX1_least : MethodName := ⟨RX1, "least", "(LSiteCuts$Judge;LSiteCuts$Price;)I"⟩
def dkwX1_least_3 : List UInt8 := [167, 255, 194, 29, 172]
abbrev dktX1_least_3 : List UInt8 := dkwX1_least_3 ++ []
def dkwX1_least_2 : List UInt8 := [159, 0, 13, 21, 6, 21, 4, 161, 0, 6, 167, 0, 10, 21, 5, 62, 21, 6, 54, 4, 132, 5, 1]
abbrev dktX1_least_2 : List UInt8 := dkwX1_least_2 ++ dktX1_least_3
def dkwX1_least_1 : List UInt8 := [185, 0, 84, 2, 0, 154, 0, 6, 167, 0, 36, 44, 21, 5, 185, 0, 90, 2, 0, 54, 6, 29, 16, 251]
abbrev dktX1_least_1 : List UInt8 := dkwX1_least_1 ++ dktX1_least_2
def dkwX1_least_0 : List UInt8 := [16, 251, 62, 3, 54, 4, 3, 54, 5, 21, 5, 42, 180, 0, 12, 182, 0, 81, 162, 0, 56, 43, 21, 5]
abbrev dktX1_least_0 : List UInt8 := dkwX1_least_0 ++ dktX1_least_1
theorem dksX1_least_0 : cX1_least.data.toList.drop 0 = dktX1_least_0 := by decide +kernel
theorem dksX1_least_1 : cX1_least.data.toList.drop 24 = dktX1_least_1 := dk_seg dksX1_least_0 24 rfl rfl
theorem dksX1_least_2 : cX1_least.data.toList.drop 48 = dktX1_least_2 := dk_seg dksX1_least_1 24 rfl rfl
theorem dksX1_least_3 : cX1_least.data.toList.drop 71 = dktX1_least_3 := dk_seg dksX1_least_2 23 rfl rfl
theorem dX1_least_0 : decode cX1_least 0 = .ok (.bipush (-5), 2) := dk_16 251 (dk_at dksX1_least_0 0 rfl rfl)
theorem dX1_least_2 : decode cX1_least 2 = .ok (.istore_n 3, 1) := dk_62 (dk_at dksX1_least_0 2 rfl rfl)
theorem dX1_least_3 : decode cX1_least 3 = .ok (.iconst 0, 1) := dk_3 (dk_at dksX1_least_0 3 rfl rfl)
theorem dX1_least_4 : decode cX1_least 4 = .ok (.istore 4, 2) := dk_54 4 (dk_at dksX1_least_0 4 rfl rfl)
theorem dX1_least_6 : decode cX1_least 6 = .ok (.iconst 0, 1) := dk_3 (dk_at dksX1_least_0 6 rfl rfl)
theorem dX1_least_7 : decode cX1_least 7 = .ok (.istore 5, 2) := dk_54 5 (dk_at dksX1_least_0 7 rfl rfl)
theorem dX1_least_9 : decode cX1_least 9 = .ok (.iload 5, 2) := dk_21 5 (dk_at dksX1_least_0 9 rfl rfl)
theorem dX1_least_11 : decode cX1_least 11 = .ok (.aload_n 0, 1) := dk_42 (dk_at dksX1_least_0 11 rfl rfl)
theorem dX1_least_12 : decode cX1_least 12 = .ok (.getfield 12, 3) := dk_180 0 12 (dk_at dksX1_least_0 12 rfl rfl)
theorem dX1_least_15 : decode cX1_least 15 = .ok (.invokevirtual 81, 3) := dk_182 0 81 (dk_at dksX1_least_0 15 rfl rfl)
theorem dX1_least_18 : decode cX1_least 18 = .ok (.if_icmp .ge 56, 3) := dk_162 0 56 (dk_at dksX1_least_0 18 rfl rfl)
theorem dX1_least_21 : decode cX1_least 21 = .ok (.aload_n 1, 1) := dk_43 (dk_at dksX1_least_0 21 rfl rfl)
theorem dX1_least_22 : decode cX1_least 22 = .ok (.iload 5, 2) := dk_21 5 (dk_at dksX1_least_0 22 rfl rfl)
theorem dX1_least_24 : decode cX1_least 24 = .ok (.invokeinterface 84 2, 5) := by decide +kernel
theorem dX1_least_29 : decode cX1_least 29 = .ok (.ifCond .ne 6, 3) := dk_154 0 6 (dk_at dksX1_least_1 5 rfl rfl)
theorem dX1_least_32 : decode cX1_least 32 = .ok (.goto 36, 3) := dk_167 0 36 (dk_at dksX1_least_1 8 rfl rfl)
theorem dX1_least_35 : decode cX1_least 35 = .ok (.aload_n 2, 1) := dk_44 (dk_at dksX1_least_1 11 rfl rfl)
theorem dX1_least_36 : decode cX1_least 36 = .ok (.iload 5, 2) := dk_21 5 (dk_at dksX1_least_1 12 rfl rfl)
theorem dX1_least_38 : decode cX1_least 38 = .ok (.invokeinterface 90 2, 5) := by decide +kernel
theorem dX1_least_43 : decode cX1_least 43 = .ok (.istore 6, 2) := dk_54 6 (dk_at dksX1_least_1 19 rfl rfl)
theorem dX1_least_45 : decode cX1_least 45 = .ok (.iload_n 3, 1) := dk_29 (dk_at dksX1_least_1 21 rfl rfl)
theorem dX1_least_46 : decode cX1_least 46 = .ok (.bipush (-5), 2) := dk_16 251 (dk_at dksX1_least_1 22 rfl rfl)
theorem dX1_least_48 : decode cX1_least 48 = .ok (.if_icmp .eq 13, 3) := dk_159 0 13 (dk_at dksX1_least_2 0 rfl rfl)
theorem dX1_least_51 : decode cX1_least 51 = .ok (.iload 6, 2) := dk_21 6 (dk_at dksX1_least_2 3 rfl rfl)
theorem dX1_least_53 : decode cX1_least 53 = .ok (.iload 4, 2) := dk_21 4 (dk_at dksX1_least_2 5 rfl rfl)
theorem dX1_least_55 : decode cX1_least 55 = .ok (.if_icmp .lt 6, 3) := dk_161 0 6 (dk_at dksX1_least_2 7 rfl rfl)
theorem dX1_least_58 : decode cX1_least 58 = .ok (.goto 10, 3) := dk_167 0 10 (dk_at dksX1_least_2 10 rfl rfl)
theorem dX1_least_61 : decode cX1_least 61 = .ok (.iload 5, 2) := dk_21 5 (dk_at dksX1_least_2 13 rfl rfl)
theorem dX1_least_63 : decode cX1_least 63 = .ok (.istore_n 3, 1) := dk_62 (dk_at dksX1_least_2 15 rfl rfl)
theorem dX1_least_64 : decode cX1_least 64 = .ok (.iload 6, 2) := dk_21 6 (dk_at dksX1_least_2 16 rfl rfl)
theorem dX1_least_66 : decode cX1_least 66 = .ok (.istore 4, 2) := dk_54 4 (dk_at dksX1_least_2 18 rfl rfl)
theorem dX1_least_68 : decode cX1_least 68 = .ok (.iinc 5 1, 3) := dk_132 5 1 (dk_at dksX1_least_2 20 rfl rfl)
theorem dX1_least_71 : decode cX1_least 71 = .ok (.goto (-62), 3) := dk_167 255 194 (dk_at dksX1_least_3 0 rfl rfl)
theorem dX1_least_74 : decode cX1_least 74 = .ok (.iload_n 3, 1) := dk_29 (dk_at dksX1_least_3 3 rfl rfl)
theorem dX1_least_75 : decode cX1_least 75 = .ok (.ireturn, 1) := dk_172 (dk_at dksX1_least_3 4 rfl rfl)
abbrev cX1_upper : ByteArray := prog_14_method_10_code
def yX1_upper : MethodName := ⟨RX1, "upper", "()I"⟩
def dkwX1_upper_0 : List UInt8 := [42, 180, 0, 12, 42, 180, 0, 25, 182, 0, 107, 172]
abbrev dktX1_upper_0 : List UInt8 := dkwX1_upper_0 ++ []
theorem dksX1_upper_0 : cX1_upper.data.toList.drop 0 = dktX1_upper_0 := by decide +kernel
theorem dX1_upper_0 : decode cX1_upper 0 = .ok (.aload_n 0, 1) := dk_42 (dk_at dksX1_upper_0 0 rfl rfl)
theorem dX1_upper_1 : decode cX1_upper 1 = .ok (.getfield 12, 3) := dk_180 0 12 (dk_at dksX1_upper_0 1 rfl rfl)
theorem dX1_upper_4 : decode cX1_upper 4 = .ok (.aload_n 0, 1) := dk_42 (dk_at dksX1_upper_0 4 rfl rfl)
theorem dX1_upper_5 : decode cX1_upper 5 = .ok (.getfield 25, 3) := dk_180 0 25 (dk_at dksX1_upper_0 5 rfl rfl)
theorem dX1_upper_8 : decode cX1_upper 8 = .ok (.invokevirtual 107, 3) := dk_182 0 107 (dk_at dksX1_upper_0 8 rfl rfl)
theorem dX1_upper_11 : decode cX1_upper 11 = .ok (.ireturn, 1) := dk_172 (dk_at dksX1_upper_0 11 rfl rfl)
abbrev cX1_priceCut : ByteArray := prog_14_method_11_code
def yX1_priceCut : MethodName := ⟨RX1, "priceCut", "(I)LSiteCuts$Cut;"⟩
def dkwX1_priceCut_2 : List UInt8 := [44, 183, 0, 121, 176]
abbrev dktX1_priceCut_2 : List UInt8 := dkwX1_priceCut_2 ++ []
def dkwX1_priceCut_1 : List UInt8 := [42, 180, 0, 12, 27, 29, 182, 0, 113, 29, 182, 0, 116, 79, 132, 3, 1, 167, 255, 222, 187, 0, 119, 89]
abbrev dktX1_priceCut_1 : List UInt8 := dkwX1_priceCut_1 ++ dktX1_priceCut_2
def dkwX1_priceCut_0 : List UInt8 := [16, 8, 188, 10, 77, 3, 62, 29, 42, 180, 0, 12, 180, 0, 110, 162, 0, 29, 44, 29, 42, 180, 0, 12]
abbrev dktX1_priceCut_0 : List UInt8 := dkwX1_priceCut_0 ++ dktX1_priceCut_1
theorem dksX1_priceCut_0 : cX1_priceCut.data.toList.drop 0 = dktX1_priceCut_0 := by decide +kernel
theorem dksX1_priceCut_1 : cX1_priceCut.data.toList.drop 24 = dktX1_priceCut_1 := dk_seg dksX1_priceCut_0 24 rfl rfl
theorem dksX1_priceCut_2 : cX1_priceCut.data.toList.drop 48 = dktX1_priceCut_2 := dk_seg dksX1_priceCut_1 24 rfl rfl
theorem dX1_priceCut_0 : decode cX1_priceCut 0 = .ok (.bipush 8, 2) := dk_16 8 (dk_at dksX1_priceCut_0 0 rfl rfl)
theorem dX1_priceCut_2 : decode cX1_priceCut 2 = .ok (.newarray .int, 2) := dk_188_10 (dk_at dksX1_priceCut_0 2 rfl rfl)
theorem dX1_priceCut_4 : decode cX1_priceCut 4 = .ok (.astore_n 2, 1) := dk_77 (dk_at dksX1_priceCut_0 4 rfl rfl)
theorem dX1_priceCut_5 : decode cX1_priceCut 5 = .ok (.iconst 0, 1) := dk_3 (dk_at dksX1_priceCut_0 5 rfl rfl)
theorem dX1_priceCut_6 : decode cX1_priceCut 6 = .ok (.istore_n 3, 1) := dk_62 (dk_at dksX1_priceCut_0 6 rfl rfl)
theorem dX1_priceCut_7 : decode cX1_priceCut 7 = .ok (.iload_n 3, 1) := dk_29 (dk_at dksX1_priceCut_0 7 rfl rfl)
theorem dX1_priceCut_8 : decode cX1_priceCut 8 = .ok (.aload_n 0, 1) := dk_42 (dk_at dksX1_priceCut_0 8 rfl rfl)
theorem dX1_priceCut_9 : decode cX1_priceCut 9 = .ok (.getfield 12, 3) := dk_180 0 12 (dk_at dksX1_priceCut_0 9 rfl rfl)
theorem dX1_priceCut_12 : decode cX1_priceCut 12 = .ok (.getfield 110, 3) := dk_180 0 110 (dk_at dksX1_priceCut_0 12 rfl rfl)
theorem dX1_priceCut_15 : decode cX1_priceCut 15 = .ok (.if_icmp .ge 29, 3) := dk_162 0 29 (dk_at dksX1_priceCut_0 15 rfl rfl)
theorem dX1_priceCut_18 : decode cX1_priceCut 18 = .ok (.aload_n 2, 1) := dk_44 (dk_at dksX1_priceCut_0 18 rfl rfl)
theorem dX1_priceCut_19 : decode cX1_priceCut 19 = .ok (.iload_n 3, 1) := dk_29 (dk_at dksX1_priceCut_0 19 rfl rfl)
theorem dX1_priceCut_20 : decode cX1_priceCut 20 = .ok (.aload_n 0, 1) := dk_42 (dk_at dksX1_priceCut_0 20 rfl rfl)
theorem dX1_priceCut_21 : decode cX1_priceCut 21 = .ok (.getfield 12, 3) := dk_180 0 12 (dk_at dksX1_priceCut_0 21 rfl rfl)
theorem dX1_priceCut_24 : decode cX1_priceCut 24 = .ok (.aload_n 0, 1) := dk_42 (dk_at dksX1_priceCut_1 0 rfl rfl)
theorem dX1_priceCut_25 : decode cX1_priceCut 25 = .ok (.getfield 12, 3) := dk_180 0 12 (dk_at dksX1_priceCut_1 1 rfl rfl)
theorem dX1_priceCut_28 : decode cX1_priceCut 28 = .ok (.iload_n 1, 1) := dk_27 (dk_at dksX1_priceCut_1 4 rfl rfl)
theorem dX1_priceCut_29 : decode cX1_priceCut 29 = .ok (.iload_n 3, 1) := dk_29 (dk_at dksX1_priceCut_1 5 rfl rfl)
theorem dX1_priceCut_30 : decode cX1_priceCut 30 = .ok (.invokevirtual 113, 3) := dk_182 0 113 (dk_at dksX1_priceCut_1 6 rfl rfl)
theorem dX1_priceCut_33 : decode cX1_priceCut 33 = .ok (.iload_n 3, 1) := dk_29 (dk_at dksX1_priceCut_1 9 rfl rfl)
theorem dX1_priceCut_34 : decode cX1_priceCut 34 = .ok (.invokevirtual 116, 3) := dk_182 0 116 (dk_at dksX1_priceCut_1 10 rfl rfl)
theorem dX1_priceCut_37 : decode cX1_priceCut 37 = .ok (.iastore, 1) := dk_79 (dk_at dksX1_priceCut_1 13 rfl rfl)
theorem dX1_priceCut_38 : decode cX1_priceCut 38 = .ok (.iinc 3 1, 3) := dk_132 3 1 (dk_at dksX1_priceCut_1 14 rfl rfl)
theorem dX1_priceCut_41 : decode cX1_priceCut 41 = .ok (.goto (-34), 3) := dk_167 255 222 (dk_at dksX1_priceCut_1 17 rfl rfl)
theorem dX1_priceCut_44 : decode cX1_priceCut 44 = .ok (.new 119, 3) := dk_187 0 119 (dk_at dksX1_priceCut_1 20 rfl rfl)
theorem dX1_priceCut_47 : decode cX1_priceCut 47 = .ok (.dup, 1) := dk_89 (dk_at dksX1_priceCut_1 23 rfl rfl)
theorem dX1_priceCut_48 : decode cX1_priceCut 48 = .ok (.aload_n 2, 1) := dk_44 (dk_at dksX1_priceCut_2 0 rfl rfl)
theorem dX1_priceCut_49 : decode cX1_priceCut 49 = .ok (.invokespecial 121, 3) := dk_183 0 121 (dk_at dksX1_priceCut_2 1 rfl rfl)
theorem dX1_priceCut_52 : decode cX1_priceCut 52 = .ok (.areturn, 1) := dk_176 (dk_at dksX1_priceCut_2 4 rfl rfl)
abbrev cX1_dropLoose : ByteArray := prog_14_method_14_code
def yX1_dropLoose : MethodName := ⟨RX1, "dropLoose", "(I)I"⟩
def dkwX1_dropLoose_4 : List UInt8 := [180, 0, 21, 45, 185, 0, 34, 2, 0, 87, 28, 172]
abbrev dktX1_dropLoose_4 : List UInt8 := dkwX1_dropLoose_4 ++ []
def dkwX1_dropLoose_3 : List UInt8 := [185, 0, 145, 2, 0, 87, 132, 4, 1, 167, 255, 190, 42, 180, 0, 21, 185, 0, 43, 1, 0, 42]
abbrev dktX1_dropLoose_3 : List UInt8 := dkwX1_dropLoose_3 ++ dktX1_dropLoose_4
def dkwX1_dropLoose_2 : List UInt8 := [153, 0, 9, 132, 2, 1, 167, 0, 24, 45, 42, 180, 0, 21, 21, 4, 185, 0, 50, 2, 0, 192, 0, 54]
abbrev dktX1_dropLoose_2 : List UInt8 := dkwX1_dropLoose_2 ++ dktX1_dropLoose_3
def dkwX1_dropLoose_1 : List UInt8 := [162, 0, 58, 42, 42, 180, 0, 21, 21, 4, 185, 0, 50, 2, 0, 192, 0, 54, 27, 182, 0, 149]
abbrev dktX1_dropLoose_1 : List UInt8 := dkwX1_dropLoose_1 ++ dktX1_dropLoose_2
def dkwX1_dropLoose_0 : List UInt8 := [3, 61, 187, 0, 18, 89, 183, 0, 20, 78, 3, 54, 4, 21, 4, 42, 180, 0, 21, 185, 0, 46, 1, 0]
abbrev dktX1_dropLoose_0 : List UInt8 := dkwX1_dropLoose_0 ++ dktX1_dropLoose_1
theorem dksX1_dropLoose_0 : cX1_dropLoose.data.toList.drop 0 = dktX1_dropLoose_0 := by decide +kernel
theorem dksX1_dropLoose_1 : cX1_dropLoose.data.toList.drop 24 = dktX1_dropLoose_1 := dk_seg dksX1_dropLoose_0 24 rfl rfl
theorem dksX1_dropLoose_2 : cX1_dropLoose.data.toList.drop 46 = dktX1_dropLoose_2 := dk_seg dksX1_dropLoose_1 22 rfl rfl
theorem dksX1_dropLoose_3 : cX1_dropLoose.data.toList.drop 70 = dktX1_dropLoose_3 := dk_seg dksX1_dropLoose_2 24 rfl rfl
theorem dksX1_dropLoose_4 : cX1_dropLoose.data.toList.drop 92 = dktX1_dropLoose_4 := dk_seg dksX1_dropLoose_3 22 rfl rfl
theorem dX1_dropLoose_0 : decode cX1_dropLoose 0 = .ok (.iconst 0, 1) := dk_3 (dk_at dksX1_dropLoose_0 0 rfl rfl)
theorem dX1_dropLoose_1 : decode cX1_dropLoose 1 = .ok (.istore_n 2, 1) := dk_61 (dk_at dksX1_dropLoose_0 1 rfl rfl)
theorem dX1_dropLoose_2 : decode cX1_dropLoose 2 = .ok (.new 18, 3) := dk_187 0 18 (dk_at dksX1_dropLoose_0 2 rfl rfl)
theorem dX1_dropLoose_5 : decode cX1_dropLoose 5 = .ok (.dup, 1) := dk_89 (dk_at dksX1_dropLoose_0 5 rfl rfl)
theorem dX1_dropLoose_6 : decode cX1_dropLoose 6 = .ok (.invokespecial 20, 3) := dk_183 0 20 (dk_at dksX1_dropLoose_0 6 rfl rfl)
theorem dX1_dropLoose_9 : decode cX1_dropLoose 9 = .ok (.astore_n 3, 1) := dk_78 (dk_at dksX1_dropLoose_0 9 rfl rfl)
theorem dX1_dropLoose_10 : decode cX1_dropLoose 10 = .ok (.iconst 0, 1) := dk_3 (dk_at dksX1_dropLoose_0 10 rfl rfl)
theorem dX1_dropLoose_11 : decode cX1_dropLoose 11 = .ok (.istore 4, 2) := dk_54 4 (dk_at dksX1_dropLoose_0 11 rfl rfl)
theorem dX1_dropLoose_13 : decode cX1_dropLoose 13 = .ok (.iload 4, 2) := dk_21 4 (dk_at dksX1_dropLoose_0 13 rfl rfl)
theorem dX1_dropLoose_15 : decode cX1_dropLoose 15 = .ok (.aload_n 0, 1) := dk_42 (dk_at dksX1_dropLoose_0 15 rfl rfl)
theorem dX1_dropLoose_16 : decode cX1_dropLoose 16 = .ok (.getfield 21, 3) := dk_180 0 21 (dk_at dksX1_dropLoose_0 16 rfl rfl)
theorem dX1_dropLoose_19 : decode cX1_dropLoose 19 = .ok (.invokeinterface 46 1, 5) := by decide +kernel
theorem dX1_dropLoose_24 : decode cX1_dropLoose 24 = .ok (.if_icmp .ge 58, 3) := dk_162 0 58 (dk_at dksX1_dropLoose_1 0 rfl rfl)
theorem dX1_dropLoose_27 : decode cX1_dropLoose 27 = .ok (.aload_n 0, 1) := dk_42 (dk_at dksX1_dropLoose_1 3 rfl rfl)
theorem dX1_dropLoose_28 : decode cX1_dropLoose 28 = .ok (.aload_n 0, 1) := dk_42 (dk_at dksX1_dropLoose_1 4 rfl rfl)
theorem dX1_dropLoose_29 : decode cX1_dropLoose 29 = .ok (.getfield 21, 3) := dk_180 0 21 (dk_at dksX1_dropLoose_1 5 rfl rfl)
theorem dX1_dropLoose_32 : decode cX1_dropLoose 32 = .ok (.iload 4, 2) := dk_21 4 (dk_at dksX1_dropLoose_1 8 rfl rfl)
theorem dX1_dropLoose_34 : decode cX1_dropLoose 34 = .ok (.invokeinterface 50 2, 5) := by decide +kernel
theorem dX1_dropLoose_39 : decode cX1_dropLoose 39 = .ok (.checkcast 54, 3) := dk_192 0 54 (dk_at dksX1_dropLoose_1 15 rfl rfl)
theorem dX1_dropLoose_42 : decode cX1_dropLoose 42 = .ok (.iload_n 1, 1) := dk_27 (dk_at dksX1_dropLoose_1 18 rfl rfl)
theorem dX1_dropLoose_43 : decode cX1_dropLoose 43 = .ok (.invokevirtual 149, 3) := dk_182 0 149 (dk_at dksX1_dropLoose_1 19 rfl rfl)
theorem dX1_dropLoose_46 : decode cX1_dropLoose 46 = .ok (.ifCond .eq 9, 3) := dk_153 0 9 (dk_at dksX1_dropLoose_2 0 rfl rfl)
theorem dX1_dropLoose_49 : decode cX1_dropLoose 49 = .ok (.iinc 2 1, 3) := dk_132 2 1 (dk_at dksX1_dropLoose_2 3 rfl rfl)
theorem dX1_dropLoose_52 : decode cX1_dropLoose 52 = .ok (.goto 24, 3) := dk_167 0 24 (dk_at dksX1_dropLoose_2 6 rfl rfl)
theorem dX1_dropLoose_55 : decode cX1_dropLoose 55 = .ok (.aload_n 3, 1) := dk_45 (dk_at dksX1_dropLoose_2 9 rfl rfl)
theorem dX1_dropLoose_56 : decode cX1_dropLoose 56 = .ok (.aload_n 0, 1) := dk_42 (dk_at dksX1_dropLoose_2 10 rfl rfl)
theorem dX1_dropLoose_57 : decode cX1_dropLoose 57 = .ok (.getfield 21, 3) := dk_180 0 21 (dk_at dksX1_dropLoose_2 11 rfl rfl)
theorem dX1_dropLoose_60 : decode cX1_dropLoose 60 = .ok (.iload 4, 2) := dk_21 4 (dk_at dksX1_dropLoose_2 14 rfl rfl)
theorem dX1_dropLoose_62 : decode cX1_dropLoose 62 = .ok (.invokeinterface 50 2, 5) := by decide +kernel
theorem dX1_dropLoose_67 : decode cX1_dropLoose 67 = .ok (.checkcast 54, 3) := dk_192 0 54 (dk_at dksX1_dropLoose_2 21 rfl rfl)
theorem dX1_dropLoose_70 : decode cX1_dropLoose 70 = .ok (.invokeinterface 145 2, 5) := by decide +kernel
theorem dX1_dropLoose_75 : decode cX1_dropLoose 75 = .ok (.pop, 1) := dk_87 (dk_at dksX1_dropLoose_3 5 rfl rfl)
theorem dX1_dropLoose_76 : decode cX1_dropLoose 76 = .ok (.iinc 4 1, 3) := dk_132 4 1 (dk_at dksX1_dropLoose_3 6 rfl rfl)
theorem dX1_dropLoose_79 : decode cX1_dropLoose 79 = .ok (.goto (-66), 3) := dk_167 255 190 (dk_at dksX1_dropLoose_3 9 rfl rfl)
theorem dX1_dropLoose_82 : decode cX1_dropLoose 82 = .ok (.aload_n 0, 1) := dk_42 (dk_at dksX1_dropLoose_3 12 rfl rfl)
theorem dX1_dropLoose_83 : decode cX1_dropLoose 83 = .ok (.getfield 21, 3) := dk_180 0 21 (dk_at dksX1_dropLoose_3 13 rfl rfl)
theorem dX1_dropLoose_86 : decode cX1_dropLoose 86 = .ok (.invokeinterface 43 1, 5) := by decide +kernel
theorem dX1_dropLoose_91 : decode cX1_dropLoose 91 = .ok (.aload_n 0, 1) := dk_42 (dk_at dksX1_dropLoose_3 21 rfl rfl)
theorem dX1_dropLoose_92 : decode cX1_dropLoose 92 = .ok (.getfield 21, 3) := dk_180 0 21 (dk_at dksX1_dropLoose_4 0 rfl rfl)
theorem dX1_dropLoose_95 : decode cX1_dropLoose 95 = .ok (.aload_n 3, 1) := dk_45 (dk_at dksX1_dropLoose_4 3 rfl rfl)
theorem dX1_dropLoose_96 : decode cX1_dropLoose 96 = .ok (.invokeinterface 34 2, 5) := by decide +kernel
theorem dX1_dropLoose_101 : decode cX1_dropLoose 101 = .ok (.pop, 1) := dk_87 (dk_at dksX1_dropLoose_4 9 rfl rfl)
theorem dX1_dropLoose_102 : decode cX1_dropLoose 102 = .ok (.iload_n 2, 1) := dk_28 (dk_at dksX1_dropLoose_4 10 rfl rfl)
theorem dX1_dropLoose_103 : decode cX1_dropLoose 103 = .ok (.ireturn, 1) := dk_172 (dk_at dksX1_dropLoose_4 11 rfl rfl)
abbrev cX1_isLoose : ByteArray := prog_14_method_13_code
def yX1_isLoose : MethodName := ⟨RX1, "isLoose", "(LSiteCuts$Cut;I)Z"⟩
def dkwX1_isLoose_2 : List UInt8 := [167, 0, 4, 3, 172]
abbrev dktX1_isLoose_2 : List UInt8 := dkwX1_isLoose_2 ++ []
def dkwX1_isLoose_1 : List UInt8 := [3, 167, 0, 25, 43, 42, 180, 0, 12, 28, 182, 0, 60, 42, 28, 182, 0, 74, 162, 0, 7, 4]
abbrev dktX1_isLoose_1 : List UInt8 := dkwX1_isLoose_1 ++ dktX1_isLoose_2
def dkwX1_isLoose_0 : List UInt8 := [43, 182, 0, 56, 153, 0, 24, 43, 42, 180, 0, 12, 28, 182, 0, 60, 4, 164, 0, 7, 4, 167, 0, 29]
abbrev dktX1_isLoose_0 : List UInt8 := dkwX1_isLoose_0 ++ dktX1_isLoose_1
theorem dksX1_isLoose_0 : cX1_isLoose.data.toList.drop 0 = dktX1_isLoose_0 := by decide +kernel
theorem dksX1_isLoose_1 : cX1_isLoose.data.toList.drop 24 = dktX1_isLoose_1 := dk_seg dksX1_isLoose_0 24 rfl rfl
theorem dksX1_isLoose_2 : cX1_isLoose.data.toList.drop 46 = dktX1_isLoose_2 := dk_seg dksX1_isLoose_1 22 rfl rfl
theorem dX1_isLoose_0 : decode cX1_isLoose 0 = .ok (.aload_n 1, 1) := dk_43 (dk_at dksX1_isLoose_0 0 rfl rfl)
theorem dX1_isLoose_1 : decode cX1_isLoose 1 = .ok (.invokevirtual 56, 3) := dk_182 0 56 (dk_at dksX1_isLoose_0 1 rfl rfl)
theorem dX1_isLoose_4 : decode cX1_isLoose 4 = .ok (.ifCond .eq 24, 3) := dk_153 0 24 (dk_at dksX1_isLoose_0 4 rfl rfl)
theorem dX1_isLoose_7 : decode cX1_isLoose 7 = .ok (.aload_n 1, 1) := dk_43 (dk_at dksX1_isLoose_0 7 rfl rfl)
theorem dX1_isLoose_8 : decode cX1_isLoose 8 = .ok (.aload_n 0, 1) := dk_42 (dk_at dksX1_isLoose_0 8 rfl rfl)
theorem dX1_isLoose_9 : decode cX1_isLoose 9 = .ok (.getfield 12, 3) := dk_180 0 12 (dk_at dksX1_isLoose_0 9 rfl rfl)
theorem dX1_isLoose_12 : decode cX1_isLoose 12 = .ok (.iload_n 2, 1) := dk_28 (dk_at dksX1_isLoose_0 12 rfl rfl)
theorem dX1_isLoose_13 : decode cX1_isLoose 13 = .ok (.invokevirtual 60, 3) := dk_182 0 60 (dk_at dksX1_isLoose_0 13 rfl rfl)
theorem dX1_isLoose_16 : decode cX1_isLoose 16 = .ok (.iconst 1, 1) := dk_4 (dk_at dksX1_isLoose_0 16 rfl rfl)
theorem dX1_isLoose_17 : decode cX1_isLoose 17 = .ok (.if_icmp .le 7, 3) := dk_164 0 7 (dk_at dksX1_isLoose_0 17 rfl rfl)
theorem dX1_isLoose_20 : decode cX1_isLoose 20 = .ok (.iconst 1, 1) := dk_4 (dk_at dksX1_isLoose_0 20 rfl rfl)
theorem dX1_isLoose_21 : decode cX1_isLoose 21 = .ok (.goto 29, 3) := dk_167 0 29 (dk_at dksX1_isLoose_0 21 rfl rfl)
theorem dX1_isLoose_24 : decode cX1_isLoose 24 = .ok (.iconst 0, 1) := dk_3 (dk_at dksX1_isLoose_1 0 rfl rfl)
theorem dX1_isLoose_25 : decode cX1_isLoose 25 = .ok (.goto 25, 3) := dk_167 0 25 (dk_at dksX1_isLoose_1 1 rfl rfl)
theorem dX1_isLoose_28 : decode cX1_isLoose 28 = .ok (.aload_n 1, 1) := dk_43 (dk_at dksX1_isLoose_1 4 rfl rfl)
theorem dX1_isLoose_29 : decode cX1_isLoose 29 = .ok (.aload_n 0, 1) := dk_42 (dk_at dksX1_isLoose_1 5 rfl rfl)
theorem dX1_isLoose_30 : decode cX1_isLoose 30 = .ok (.getfield 12, 3) := dk_180 0 12 (dk_at dksX1_isLoose_1 6 rfl rfl)
theorem dX1_isLoose_33 : decode cX1_isLoose 33 = .ok (.iload_n 2, 1) := dk_28 (dk_at dksX1_isLoose_1 9 rfl rfl)
theorem dX1_isLoose_34 : decode cX1_isLoose 34 = .ok (.invokevirtual 60, 3) := dk_182 0 60 (dk_at dksX1_isLoose_1 10 rfl rfl)
theorem dX1_isLoose_37 : decode cX1_isLoose 37 = .ok (.aload_n 0, 1) := dk_42 (dk_at dksX1_isLoose_1 13 rfl rfl)
theorem dX1_isLoose_38 : decode cX1_isLoose 38 = .ok (.iload_n 2, 1) := dk_28 (dk_at dksX1_isLoose_1 14 rfl rfl)
theorem dX1_isLoose_39 : decode cX1_isLoose 39 = .ok (.invokevirtual 74, 3) := dk_182 0 74 (dk_at dksX1_isLoose_1 15 rfl rfl)
theorem dX1_isLoose_42 : decode cX1_isLoose 42 = .ok (.if_icmp .ge 7, 3) := dk_162 0 7 (dk_at dksX1_isLoose_1 18 rfl rfl)
theorem dX1_isLoose_45 : decode cX1_isLoose 45 = .ok (.iconst 1, 1) := dk_4 (dk_at dksX1_isLoose_1 21 rfl rfl)
theorem dX1_isLoose_46 : decode cX1_isLoose 46 = .ok (.goto 4, 3) := dk_167 0 4 (dk_at dksX1_isLoose_2 0 rfl rfl)
theorem dX1_isLoose_49 : decode cX1_isLoose 49 = .ok (.iconst 0, 1) := dk_3 (dk_at dksX1_isLoose_2 3 rfl rfl)
theorem dX1_isLoose_50 : decode cX1_isLoose 50 = .ok (.ireturn, 1) := dk_172 (dk_at dksX1_isLoose_2 4 rfl rfl)
abbrev cX1_bestOfAll : ByteArray := prog_14_method_9_code
def yX1_bestOfAll : MethodName := ⟨RX1, "bestOfAll", "()I"⟩
def dkwX1_bestOfAll_0 : List UInt8 := [42, 42, 186, 0, 105, 0, 0, 42, 186, 0, 106, 0, 0, 182, 0, 101, 172]
abbrev dktX1_bestOfAll_0 : List UInt8 := dkwX1_bestOfAll_0 ++ []
theorem dksX1_bestOfAll_0 : cX1_bestOfAll.data.toList.drop 0 = dktX1_bestOfAll_0 := by decide +kernel
theorem dX1_bestOfAll_0 : decode cX1_bestOfAll 0 = .ok (.aload_n 0, 1) := dk_42 (dk_at dksX1_bestOfAll_0 0 rfl rfl)
theorem dX1_bestOfAll_1 : decode cX1_bestOfAll 1 = .ok (.aload_n 0, 1) := dk_42 (dk_at dksX1_bestOfAll_0 1 rfl rfl)
theorem dX1_bestOfAll_2 : decode cX1_bestOfAll 2 = .ok (.invokedynamic 105, 5) := by decide +kernel
theorem dX1_bestOfAll_7 : decode cX1_bestOfAll 7 = .ok (.aload_n 0, 1) := dk_42 (dk_at dksX1_bestOfAll_0 7 rfl rfl)
theorem dX1_bestOfAll_8 : decode cX1_bestOfAll 8 = .ok (.invokedynamic 106, 5) := by decide +kernel
theorem dX1_bestOfAll_13 : decode cX1_bestOfAll 13 = .ok (.invokevirtual 101, 3) := dk_182 0 101 (dk_at dksX1_bestOfAll_0 13 rfl rfl)
theorem dX1_bestOfAll_16 : decode cX1_bestOfAll 16 = .ok (.ireturn, 1) := dk_172 (dk_at dksX1_bestOfAll_0 16 rfl rfl)
abbrev cX1_lambda_bestOfAll_2 : ByteArray := prog_14_method_16_code
def yX1_lambda_bestOfAll_2 : MethodName := ⟨RX1, "lambda$bestOfAll$2", "(I)Z"⟩
def dkwX1_lambda_bestOfAll_2_0 : List UInt8 := [42, 180, 0, 12, 27, 182, 0, 153, 172]
abbrev dktX1_lambda_bestOfAll_2_0 : List UInt8 := dkwX1_lambda_bestOfAll_2_0 ++ []
theorem dksX1_lambda_bestOfAll_2_0 : cX1_lambda_bestOfAll_2.data.toList.drop 0 = dktX1_lambda_bestOfAll_2_0 := by decide +kernel
theorem dX1_lambda_bestOfAll_2_0 : decode cX1_lambda_bestOfAll_2 0 = .ok (.aload_n 0, 1) := dk_42 (dk_at dksX1_lambda_bestOfAll_2_0 0 rfl rfl)
theorem dX1_lambda_bestOfAll_2_1 : decode cX1_lambda_bestOfAll_2 1 = .ok (.getfield 12, 3) := dk_180 0 12 (dk_at dksX1_lambda_bestOfAll_2_0 1 rfl rfl)
theorem dX1_lambda_bestOfAll_2_4 : decode cX1_lambda_bestOfAll_2 4 = .ok (.iload_n 1, 1) := dk_27 (dk_at dksX1_lambda_bestOfAll_2_0 4 rfl rfl)
theorem dX1_lambda_bestOfAll_2_5 : decode cX1_lambda_bestOfAll_2 5 = .ok (.invokevirtual 153, 3) := dk_182 0 153 (dk_at dksX1_lambda_bestOfAll_2_0 5 rfl rfl)
theorem dX1_lambda_bestOfAll_2_8 : decode cX1_lambda_bestOfAll_2 8 = .ok (.ireturn, 1) := dk_172 (dk_at dksX1_lambda_bestOfAll_2_0 8 rfl rfl)
abbrev cX1_lambda_bestOfAll_3 : ByteArray := prog_14_method_15_code
def yX1_lambda_bestOfAll_3 : MethodName := ⟨RX1, "lambda$bestOfAll$3", "(I)I"⟩
def dkwX1_lambda_bestOfAll_3_0 : List UInt8 := [42, 180, 0, 12, 27, 182, 0, 107, 172]
abbrev dktX1_lambda_bestOfAll_3_0 : List UInt8 := dkwX1_lambda_bestOfAll_3_0 ++ []
theorem dksX1_lambda_bestOfAll_3_0 : cX1_lambda_bestOfAll_3.data.toList.drop 0 = dktX1_lambda_bestOfAll_3_0 := by decide +kernel
theorem dX1_lambda_bestOfAll_3_0 : decode cX1_lambda_bestOfAll_3 0 = .ok (.aload_n 0, 1) := dk_42 (dk_at dksX1_lambda_bestOfAll_3_0 0 rfl rfl)
theorem dX1_lambda_bestOfAll_3_1 : decode cX1_lambda_bestOfAll_3 1 = .ok (.getfield 12, 3) := dk_180 0 12 (dk_at dksX1_lambda_bestOfAll_3_0 1 rfl rfl)
theorem dX1_lambda_bestOfAll_3_4 : decode cX1_lambda_bestOfAll_3 4 = .ok (.iload_n 1, 1) := dk_27 (dk_at dksX1_lambda_bestOfAll_3_0 4 rfl rfl)
theorem dX1_lambda_bestOfAll_3_5 : decode cX1_lambda_bestOfAll_3 5 = .ok (.invokevirtual 107, 3) := dk_182 0 107 (dk_at dksX1_lambda_bestOfAll_3_0 5 rfl rfl)
theorem dX1_lambda_bestOfAll_3_8 : decode cX1_lambda_bestOfAll_3 8 = .ok (.ireturn, 1) := dk_172 (dk_at dksX1_lambda_bestOfAll_3_0 8 rfl rfl)
theorem q60 : (Jvm.Cond.initialized "SiteCuts$State") ∈ lw_all := lw_g (lw_at lw_m1 2 rfl) rfl
theorem q97 : (Jvm.Cond.instantiable "SiteCuts$State" (4 : Nat)) ∈ lw_all := lw_g (lw_at lw_m1 39 rfl) rfl
theorem q99 : (Jvm.Cond.instanceMethod ({ cls := "SiteCuts$State", name := "<init>", desc := "()V" } : Jvm.MethodName)) ∈ lw_all := lw_g (lw_at lw_m1 41 rfl) rfl
theorem q100 : (Jvm.Cond.code ({ cls := "SiteCuts$State", name := "<init>", desc := "()V" } : Jvm.MethodName) prog_14_method_1_code (1 : Nat) (Option.none : Option Jvm.ClassFile.FieldType)) ∈ lw_all := lw_g (lw_at lw_m1 42 rfl) rfl
theorem q101 : (Jvm.Cond.methodLink "SiteCuts$State" (3 : Nat) ({ cls := "java/lang/Object", name := "<init>", desc := "()V" } : Jvm.MethodName)) ∈ lw_all := lw_g (lw_at lw_m1 43 rfl) rfl
theorem q102 : (Jvm.Cond.classLink "SiteCuts$State" (9 : Nat) "SiteCuts$Land") ∈ lw_all := lw_g (lw_at lw_m1 44 rfl) rfl
theorem q104 : (Jvm.Cond.methodLink "SiteCuts$State" (11 : Nat) ({ cls := "SiteCuts$Land", name := "<init>", desc := "()V" } : Jvm.MethodName)) ∈ lw_all := lw_g (lw_at lw_m1 46 rfl) rfl
theorem q125 : (Jvm.Cond.fieldLinkNest "SiteCuts$State" (110 : Nat) "SiteCuts$Land" "customers" "I" "SiteCuts") ∈ lw_tbl := lw_at lw_m1 67 rfl
theorem q145 : (Jvm.Cond.classLink "SiteCuts$State" (18 : Nat) "java/util/ArrayList") ∈ lw_all := lw_g (lw_at lw_m1 87 rfl) rfl
theorem q147 : (Jvm.Cond.methodLink "SiteCuts$State" (20 : Nat) ({ cls := "java/util/ArrayList", name := "<init>", desc := "()V" } : Jvm.MethodName)) ∈ lw_all := lw_g (lw_at lw_m1 89 rfl) rfl
theorem q171 : (Jvm.Cond.fieldLink "SiteCuts$State" (12 : Nat) "SiteCuts$State" "land" "LSiteCuts$Land;") ∈ lw_all := lw_g (lw_at lw_m1 113 rfl) rfl
theorem q173 : (Jvm.Cond.fieldLink "SiteCuts$State" (21 : Nat) "SiteCuts$State" "cuts" "Ljava/util/List;") ∈ lw_all := lw_g (lw_at lw_m1 115 rfl) rfl
theorem q175 : (Jvm.Cond.fieldLink "SiteCuts$State" (25 : Nat) "SiteCuts$State" "best" "I") ∈ lw_all := lw_g (lw_at lw_m1 117 rfl) rfl
theorem q177 : (Jvm.Cond.fieldLink "SiteCuts$State" (40 : Nat) "SiteCuts$State" "steps" "I") ∈ lw_all := lw_g (lw_at lw_m1 119 rfl) rfl
theorem q179 : (Jvm.Cond.lays "SiteCuts$State" "SiteCuts$State" "land" "LSiteCuts$Land;") ∈ lw_all := lw_g (lw_at lw_m1 121 rfl) rfl
theorem q180 : (Jvm.Cond.soleField "SiteCuts$State" "land") ∈ lw_all := lw_g (lw_at lw_m1 122 rfl) rfl
theorem q181 : (Jvm.Cond.laysFinal "SiteCuts$State" "SiteCuts$State" "cuts" "Ljava/util/List;") ∈ lw_all := lw_g (lw_at lw_m1 123 rfl) rfl
theorem q182 : (Jvm.Cond.soleField "SiteCuts$State" "cuts") ∈ lw_all := lw_g (lw_at lw_m1 124 rfl) rfl
theorem q183 : (Jvm.Cond.lays "SiteCuts$State" "SiteCuts$State" "best" "I") ∈ lw_all := lw_g (lw_at lw_m1 125 rfl) rfl
theorem q184 : (Jvm.Cond.soleField "SiteCuts$State" "best") ∈ lw_all := lw_g (lw_at lw_m1 126 rfl) rfl
theorem q185 : (Jvm.Cond.lays "SiteCuts$State" "SiteCuts$State" "steps" "I") ∈ lw_all := lw_g (lw_at lw_m1 127 rfl) rfl
theorem q186 : (Jvm.Cond.soleField "SiteCuts$State" "steps") ∈ lw_all := lw_g (lw_at lw_m1 128 rfl) rfl
theorem q187 : (Jvm.Cond.superclass "SiteCuts$State" "java/lang/Object") ∈ lw_all := lw_g (lw_at lw_m1 129 rfl) rfl
theorem q247 : (Jvm.Cond.instanceMethod ({ cls := "SiteCuts$State", name := "copy", desc := "()LSiteCuts$State;" } : Jvm.MethodName)) ∈ lw_all := lw_g (lw_at lw_m1 189 rfl) rfl
theorem q248 : (Jvm.Cond.selects "SiteCuts$State" ({ cls := "SiteCuts$State", name := "copy", desc := "()LSiteCuts$State;" } : Jvm.MethodName) ({ cls := "SiteCuts$State", name := "copy", desc := "()LSiteCuts$State;" } : Jvm.MethodName)) ∈ lw_all := lw_g (lw_at lw_m1 190 rfl) rfl
theorem q249 : (Jvm.Cond.code ({ cls := "SiteCuts$State", name := "copy", desc := "()LSiteCuts$State;" } : Jvm.MethodName) prog_14_method_2_code (2 : Nat) (Option.some (Jvm.ClassFile.FieldType.object "SiteCuts$State"))) ∈ lw_all := lw_g (lw_at lw_m1 191 rfl) rfl
theorem q250 : (Jvm.Cond.classLink "SiteCuts$State" (13 : Nat) "SiteCuts$State") ∈ lw_all := lw_g (lw_at lw_m1 192 rfl) rfl
theorem q251 : (Jvm.Cond.methodLink "SiteCuts$State" (29 : Nat) ({ cls := "SiteCuts$State", name := "<init>", desc := "()V" } : Jvm.MethodName)) ∈ lw_all := lw_g (lw_at lw_m1 193 rfl) rfl
theorem q252 : (Jvm.Cond.methodLink "SiteCuts$State" (30 : Nat) ({ cls := "SiteCuts$Land", name := "copy", desc := "()LSiteCuts$Land;" } : Jvm.MethodName)) ∈ lw_all := lw_g (lw_at lw_m1 194 rfl) rfl
theorem q261 : (Jvm.Cond.interfaceEntry "SiteCuts$State" (34 : Nat)) ∈ lw_tbl := lw_at lw_m1 203 rfl
theorem q262 : (Jvm.Cond.methodLink "SiteCuts$State" (34 : Nat) ({ cls := "java/util/List", name := "addAll", desc := "(Ljava/util/Collection;)Z" } : Jvm.MethodName)) ∈ lw_all := lw_g (lw_at lw_m1 204 rfl) rfl
theorem q296 : (Jvm.Cond.selects "SiteCuts$State" ({ cls := "java/lang/Object", name := "getClass", desc := "()Ljava/lang/Class;" } : Jvm.MethodName) ({ cls := "java/lang/Object", name := "getClass", desc := "()Ljava/lang/Class;" } : Jvm.MethodName)) ∈ lw_all := lw_g (lw_at lw_m1 238 rfl) rfl
theorem q331 : (Jvm.Cond.instanceMethod ({ cls := "SiteCuts$State", name := "forget", desc := "()V" } : Jvm.MethodName)) ∈ lw_all := lw_g (lw_at lw_m2 33 rfl) rfl
theorem q332 : (Jvm.Cond.selects "SiteCuts$State" ({ cls := "SiteCuts$State", name := "forget", desc := "()V" } : Jvm.MethodName) ({ cls := "SiteCuts$State", name := "forget", desc := "()V" } : Jvm.MethodName)) ∈ lw_all := lw_g (lw_at lw_m2 34 rfl) rfl
theorem q333 : (Jvm.Cond.code ({ cls := "SiteCuts$State", name := "forget", desc := "()V" } : Jvm.MethodName) prog_14_method_3_code (1 : Nat) (Option.none : Option Jvm.ClassFile.FieldType)) ∈ lw_all := lw_g (lw_at lw_m2 35 rfl) rfl
theorem q334 : (Jvm.Cond.interfaceEntry "SiteCuts$State" (43 : Nat)) ∈ lw_tbl := lw_at lw_m2 36 rfl
theorem q335 : (Jvm.Cond.methodLink "SiteCuts$State" (43 : Nat) ({ cls := "java/util/List", name := "clear", desc := "()V" } : Jvm.MethodName)) ∈ lw_all := lw_g (lw_at lw_m2 37 rfl) rfl
theorem q442 : (Jvm.Cond.instanceMethod ({ cls := "SiteCuts$State", name := "step", desc := "()I" } : Jvm.MethodName)) ∈ lw_all := lw_g (lw_at lw_m2 144 rfl) rfl
theorem q443 : (Jvm.Cond.selects "SiteCuts$State" ({ cls := "SiteCuts$State", name := "step", desc := "()I" } : Jvm.MethodName) ({ cls := "SiteCuts$State", name := "step", desc := "()I" } : Jvm.MethodName)) ∈ lw_all := lw_g (lw_at lw_m2 145 rfl) rfl
theorem q444 : (Jvm.Cond.code ({ cls := "SiteCuts$State", name := "step", desc := "()I" } : Jvm.MethodName) prog_14_method_12_code (4 : Nat) (Option.some Jvm.ClassFile.FieldType.int)) ∈ lw_all := lw_g (lw_at lw_m2 146 rfl) rfl
theorem q445 : (Jvm.Cond.methodLink "SiteCuts$State" (124 : Nat) ({ cls := "SiteCuts$State", name := "master", desc := "()I" } : Jvm.MethodName)) ∈ lw_all := lw_g (lw_at lw_m2 147 rfl) rfl
theorem q446 : (Jvm.Cond.instanceMethod ({ cls := "SiteCuts$State", name := "master", desc := "()I" } : Jvm.MethodName)) ∈ lw_all := lw_g (lw_at lw_m2 148 rfl) rfl
theorem q447 : (Jvm.Cond.selects "SiteCuts$State" ({ cls := "SiteCuts$State", name := "master", desc := "()I" } : Jvm.MethodName) ({ cls := "SiteCuts$State", name := "master", desc := "()I" } : Jvm.MethodName)) ∈ lw_all := lw_g (lw_at lw_m2 149 rfl) rfl
theorem q448 : (Jvm.Cond.code ({ cls := "SiteCuts$State", name := "master", desc := "()I" } : Jvm.MethodName) prog_14_method_8_code (1 : Nat) (Option.some Jvm.ClassFile.FieldType.int)) ∈ lw_all := lw_g (lw_at lw_m2 150 rfl) rfl
theorem q449 : (Jvm.Cond.privateMethod ({ cls := "SiteCuts$State", name := "lambda$master$0", desc := "(I)Z" } : Jvm.MethodName)) ∈ lw_tbl := lw_at lw_m2 151 rfl
theorem q450 : (Jvm.Cond.instanceMethod ({ cls := "SiteCuts$State", name := "lambda$master$0", desc := "(I)Z" } : Jvm.MethodName)) ∈ lw_all := lw_g (lw_at lw_m2 152 rfl) rfl
theorem q451 : (Jvm.Cond.code ({ cls := "SiteCuts$State", name := "lambda$master$0", desc := "(I)Z" } : Jvm.MethodName) prog_14_method_18_code (2 : Nat) (Option.some Jvm.ClassFile.FieldType.boolean)) ∈ lw_all := lw_g (lw_at lw_m2 153 rfl) rfl
theorem q452 : (Jvm.Cond.methodLink "SiteCuts$State" (156 : Nat) ({ cls := "SiteCuts$Land", name := "isAllowed", desc := "(I)Z" } : Jvm.MethodName)) ∈ lw_all := lw_g (lw_at lw_m2 154 rfl) rfl
theorem q487 : (Jvm.Cond.methodLink "SiteCuts$State" (159 : Nat) ({ cls := "SiteCuts$State", name := "broken", desc := "(I)I" } : Jvm.MethodName)) ∈ lw_all := lw_g (lw_at lw_m2 189 rfl) rfl
theorem q488 : (Jvm.Cond.instanceMethod ({ cls := "SiteCuts$State", name := "broken", desc := "(I)I" } : Jvm.MethodName)) ∈ lw_all := lw_g (lw_at lw_m2 190 rfl) rfl
theorem q489 : (Jvm.Cond.selects "SiteCuts$State" ({ cls := "SiteCuts$State", name := "broken", desc := "(I)I" } : Jvm.MethodName) ({ cls := "SiteCuts$State", name := "broken", desc := "(I)I" } : Jvm.MethodName)) ∈ lw_all := lw_g (lw_at lw_m2 191 rfl) rfl
theorem q490 : (Jvm.Cond.code ({ cls := "SiteCuts$State", name := "broken", desc := "(I)I" } : Jvm.MethodName) prog_14_method_6_code (4 : Nat) (Option.some Jvm.ClassFile.FieldType.int)) ∈ lw_all := lw_g (lw_at lw_m2 192 rfl) rfl
theorem q491 : (Jvm.Cond.interfaceEntry "SiteCuts$State" (46 : Nat)) ∈ lw_tbl := lw_at lw_m2 193 rfl
theorem q492 : (Jvm.Cond.methodLink "SiteCuts$State" (46 : Nat) ({ cls := "java/util/List", name := "size", desc := "()I" } : Jvm.MethodName)) ∈ lw_all := lw_g (lw_at lw_m2 194 rfl) rfl
theorem q493 : (Jvm.Cond.interfaceEntry "SiteCuts$State" (50 : Nat)) ∈ lw_tbl := lw_at lw_m2 195 rfl
theorem q494 : (Jvm.Cond.methodLink "SiteCuts$State" (50 : Nat) ({ cls := "java/util/List", name := "get", desc := "(I)Ljava/lang/Object;" } : Jvm.MethodName)) ∈ lw_all := lw_g (lw_at lw_m2 196 rfl) rfl
theorem q506 : (Jvm.Cond.classLink "SiteCuts$State" (54 : Nat) "SiteCuts$Cut") ∈ lw_all := lw_g (lw_at lw_m2 208 rfl) rfl
theorem q507 : (Jvm.Cond.methodLink "SiteCuts$State" (56 : Nat) ({ cls := "SiteCuts$Cut", name := "isRay", desc := "()Z" } : Jvm.MethodName)) ∈ lw_all := lw_g (lw_at lw_m2 209 rfl) rfl
theorem q514 : (Jvm.Cond.methodLink "SiteCuts$State" (77 : Nat) ({ cls := "SiteCuts$Cut", name := "isBroken", desc := "(LSiteCuts$Land;I)Z" } : Jvm.MethodName)) ∈ lw_all := lw_g (lw_at lw_m2 216 rfl) rfl
theorem q568 : (Jvm.Cond.privateMethod ({ cls := "SiteCuts$State", name := "lambda$master$1", desc := "(I)I" } : Jvm.MethodName)) ∈ lw_tbl := lw_at lw_m3 30 rfl
theorem q569 : (Jvm.Cond.instanceMethod ({ cls := "SiteCuts$State", name := "lambda$master$1", desc := "(I)I" } : Jvm.MethodName)) ∈ lw_all := lw_g (lw_at lw_m3 31 rfl) rfl
theorem q570 : (Jvm.Cond.code ({ cls := "SiteCuts$State", name := "lambda$master$1", desc := "(I)I" } : Jvm.MethodName) prog_14_method_17_code (2 : Nat) (Option.some Jvm.ClassFile.FieldType.int)) ∈ lw_all := lw_g (lw_at lw_m3 32 rfl) rfl
theorem q571 : (Jvm.Cond.methodLink "SiteCuts$State" (133 : Nat) ({ cls := "SiteCuts$State", name := "guess", desc := "(I)I" } : Jvm.MethodName)) ∈ lw_all := lw_g (lw_at lw_m3 33 rfl) rfl
theorem q572 : (Jvm.Cond.instanceMethod ({ cls := "SiteCuts$State", name := "guess", desc := "(I)I" } : Jvm.MethodName)) ∈ lw_all := lw_g (lw_at lw_m3 34 rfl) rfl
theorem q573 : (Jvm.Cond.selects "SiteCuts$State" ({ cls := "SiteCuts$State", name := "guess", desc := "(I)I" } : Jvm.MethodName) ({ cls := "SiteCuts$State", name := "guess", desc := "(I)I" } : Jvm.MethodName)) ∈ lw_all := lw_g (lw_at lw_m3 35 rfl) rfl
theorem q574 : (Jvm.Cond.code ({ cls := "SiteCuts$State", name := "guess", desc := "(I)I" } : Jvm.MethodName) prog_14_method_5_code (2 : Nat) (Option.some Jvm.ClassFile.FieldType.int)) ∈ lw_all := lw_g (lw_at lw_m3 36 rfl) rfl
theorem q575 : (Jvm.Cond.methodLink "SiteCuts$State" (70 : Nat) ({ cls := "SiteCuts$Land", name := "pricesOf", desc := "(I)I" } : Jvm.MethodName)) ∈ lw_all := lw_g (lw_at lw_m3 37 rfl) rfl
theorem q579 : (Jvm.Cond.methodLink "SiteCuts$State" (74 : Nat) ({ cls := "SiteCuts$State", name := "guessAbove", desc := "(I)I" } : Jvm.MethodName)) ∈ lw_all := lw_g (lw_at lw_m3 41 rfl) rfl
theorem q580 : (Jvm.Cond.instanceMethod ({ cls := "SiteCuts$State", name := "guessAbove", desc := "(I)I" } : Jvm.MethodName)) ∈ lw_all := lw_g (lw_at lw_m3 42 rfl) rfl
theorem q581 : (Jvm.Cond.selects "SiteCuts$State" ({ cls := "SiteCuts$State", name := "guessAbove", desc := "(I)I" } : Jvm.MethodName) ({ cls := "SiteCuts$State", name := "guessAbove", desc := "(I)I" } : Jvm.MethodName)) ∈ lw_all := lw_g (lw_at lw_m3 43 rfl) rfl
theorem q582 : (Jvm.Cond.code ({ cls := "SiteCuts$State", name := "guessAbove", desc := "(I)I" } : Jvm.MethodName) prog_14_method_4_code (4 : Nat) (Option.some Jvm.ClassFile.FieldType.int)) ∈ lw_all := lw_g (lw_at lw_m3 44 rfl) rfl
theorem q583 : (Jvm.Cond.methodLink "SiteCuts$State" (60 : Nat) ({ cls := "SiteCuts$Cut", name := "value", desc := "(LSiteCuts$Land;I)I" } : Jvm.MethodName)) ∈ lw_all := lw_g (lw_at lw_m3 45 rfl) rfl
theorem q584 : (Jvm.Cond.methodLink "SiteCuts$State" (64 : Nat) ({ cls := "java/lang/Math", name := "max", desc := "(II)I" } : Jvm.MethodName)) ∈ lw_all := lw_g (lw_at lw_m3 46 rfl) rfl
theorem q585 : (Jvm.Cond.methodLink "SiteCuts$State" (101 : Nat) ({ cls := "SiteCuts$State", name := "least", desc := "(LSiteCuts$Judge;LSiteCuts$Price;)I" } : Jvm.MethodName)) ∈ lw_all := lw_g (lw_at lw_m3 47 rfl) rfl
theorem q586 : (Jvm.Cond.privateMethod ({ cls := "SiteCuts$State", name := "least", desc := "(LSiteCuts$Judge;LSiteCuts$Price;)I" } : Jvm.MethodName)) ∈ lw_tbl := lw_at lw_m3 48 rfl
theorem q587 : (Jvm.Cond.instanceMethod ({ cls := "SiteCuts$State", name := "least", desc := "(LSiteCuts$Judge;LSiteCuts$Price;)I" } : Jvm.MethodName)) ∈ lw_all := lw_g (lw_at lw_m3 49 rfl) rfl
theorem q588 : (Jvm.Cond.code ({ cls := "SiteCuts$State", name := "least", desc := "(LSiteCuts$Judge;LSiteCuts$Price;)I" } : Jvm.MethodName) prog_14_method_7_code (7 : Nat) (Option.some Jvm.ClassFile.FieldType.int)) ∈ lw_all := lw_g (lw_at lw_m3 50 rfl) rfl
theorem q589 : (Jvm.Cond.methodLink "SiteCuts$State" (81 : Nat) ({ cls := "SiteCuts$Land", name := "plans", desc := "()I" } : Jvm.MethodName)) ∈ lw_all := lw_g (lw_at lw_m3 51 rfl) rfl
theorem q593 : (Jvm.Cond.interfaceEntry "SiteCuts$State" (84 : Nat)) ∈ lw_tbl := lw_at lw_m3 55 rfl
theorem q594 : (Jvm.Cond.methodLink "SiteCuts$State" (84 : Nat) ({ cls := "SiteCuts$Judge", name := "allows", desc := "(I)Z" } : Jvm.MethodName)) ∈ lw_all := lw_g (lw_at lw_m3 56 rfl) rfl
theorem q597 : (Jvm.Cond.interfaceEntry "SiteCuts$State" (90 : Nat)) ∈ lw_tbl := lw_at lw_m3 59 rfl
theorem q598 : (Jvm.Cond.methodLink "SiteCuts$State" (90 : Nat) ({ cls := "SiteCuts$Price", name := "of", desc := "(I)I" } : Jvm.MethodName)) ∈ lw_all := lw_g (lw_at lw_m3 60 rfl) rfl
theorem q601 : (Jvm.Cond.methodLink "SiteCuts$State" (127 : Nat) ({ cls := "SiteCuts$Land", name := "lost", desc := "(I)I" } : Jvm.MethodName)) ∈ lw_all := lw_g (lw_at lw_m3 63 rfl) rfl
theorem q602 : (Jvm.Cond.methodLink "SiteCuts$State" (107 : Nat) ({ cls := "SiteCuts$Land", name := "cost", desc := "(I)I" } : Jvm.MethodName)) ∈ lw_all := lw_g (lw_at lw_m3 64 rfl) rfl
theorem q608 : (Jvm.Cond.methodLink "SiteCuts$State" (130 : Nat) ({ cls := "SiteCuts$State", name := "upper", desc := "()I" } : Jvm.MethodName)) ∈ lw_all := lw_g (lw_at lw_m3 70 rfl) rfl
theorem q609 : (Jvm.Cond.instanceMethod ({ cls := "SiteCuts$State", name := "upper", desc := "()I" } : Jvm.MethodName)) ∈ lw_all := lw_g (lw_at lw_m3 71 rfl) rfl
theorem q610 : (Jvm.Cond.selects "SiteCuts$State" ({ cls := "SiteCuts$State", name := "upper", desc := "()I" } : Jvm.MethodName) ({ cls := "SiteCuts$State", name := "upper", desc := "()I" } : Jvm.MethodName)) ∈ lw_all := lw_g (lw_at lw_m3 72 rfl) rfl
theorem q611 : (Jvm.Cond.code ({ cls := "SiteCuts$State", name := "upper", desc := "()I" } : Jvm.MethodName) prog_14_method_10_code (1 : Nat) (Option.some Jvm.ClassFile.FieldType.int)) ∈ lw_all := lw_g (lw_at lw_m3 73 rfl) rfl
theorem q612 : (Jvm.Cond.methodLink "SiteCuts$State" (136 : Nat) ({ cls := "SiteCuts$State", name := "priceCut", desc := "(I)LSiteCuts$Cut;" } : Jvm.MethodName)) ∈ lw_all := lw_g (lw_at lw_m3 74 rfl) rfl
theorem q613 : (Jvm.Cond.privateMethod ({ cls := "SiteCuts$State", name := "priceCut", desc := "(I)LSiteCuts$Cut;" } : Jvm.MethodName)) ∈ lw_tbl := lw_at lw_m3 75 rfl
theorem q614 : (Jvm.Cond.instanceMethod ({ cls := "SiteCuts$State", name := "priceCut", desc := "(I)LSiteCuts$Cut;" } : Jvm.MethodName)) ∈ lw_all := lw_g (lw_at lw_m3 76 rfl) rfl
theorem q615 : (Jvm.Cond.code ({ cls := "SiteCuts$State", name := "priceCut", desc := "(I)LSiteCuts$Cut;" } : Jvm.MethodName) prog_14_method_11_code (4 : Nat) (Option.some (Jvm.ClassFile.FieldType.object "SiteCuts$Cut"))) ∈ lw_all := lw_g (lw_at lw_m3 77 rfl) rfl
theorem q616 : (Jvm.Cond.methodLink "SiteCuts$State" (113 : Nat) ({ cls := "SiteCuts$Land", name := "server", desc := "(II)I" } : Jvm.MethodName)) ∈ lw_all := lw_g (lw_at lw_m3 78 rfl) rfl
theorem q617 : (Jvm.Cond.methodLink "SiteCuts$State" (116 : Nat) ({ cls := "SiteCuts$Land", name := "route", desc := "(II)I" } : Jvm.MethodName)) ∈ lw_all := lw_g (lw_at lw_m3 79 rfl) rfl
theorem q618 : (Jvm.Cond.classLink "SiteCuts$State" (119 : Nat) "SiteCuts$PriceCut") ∈ lw_all := lw_g (lw_at lw_m3 80 rfl) rfl
theorem q620 : (Jvm.Cond.methodLink "SiteCuts$State" (121 : Nat) ({ cls := "SiteCuts$PriceCut", name := "<init>", desc := "([I)V" } : Jvm.MethodName)) ∈ lw_all := lw_g (lw_at lw_m3 82 rfl) rfl
theorem q633 : (Jvm.Cond.classLink "SiteCuts$State" (140 : Nat) "SiteCuts$Ray") ∈ lw_all := lw_g (lw_at lw_m3 95 rfl) rfl
theorem q635 : (Jvm.Cond.methodLink "SiteCuts$State" (142 : Nat) ({ cls := "SiteCuts$Ray", name := "<init>", desc := "(I)V" } : Jvm.MethodName)) ∈ lw_all := lw_g (lw_at lw_m3 97 rfl) rfl
theorem q644 : (Jvm.Cond.interfaceEntry "SiteCuts$State" (145 : Nat)) ∈ lw_tbl := lw_at lw_m3 106 rfl
theorem q645 : (Jvm.Cond.methodLink "SiteCuts$State" (145 : Nat) ({ cls := "java/util/List", name := "add", desc := "(Ljava/lang/Object;)Z" } : Jvm.MethodName)) ∈ lw_all := lw_g (lw_at lw_m3 107 rfl) rfl
theorem q806 : (Jvm.Cond.instanceMethod ({ cls := "SiteCuts$State", name := "dropLoose", desc := "(I)I" } : Jvm.MethodName)) ∈ lw_all := lw_g (lw_at lw_m4 28 rfl) rfl
theorem q807 : (Jvm.Cond.selects "SiteCuts$State" ({ cls := "SiteCuts$State", name := "dropLoose", desc := "(I)I" } : Jvm.MethodName) ({ cls := "SiteCuts$State", name := "dropLoose", desc := "(I)I" } : Jvm.MethodName)) ∈ lw_all := lw_g (lw_at lw_m4 29 rfl) rfl
theorem q808 : (Jvm.Cond.code ({ cls := "SiteCuts$State", name := "dropLoose", desc := "(I)I" } : Jvm.MethodName) prog_14_method_14_code (5 : Nat) (Option.some Jvm.ClassFile.FieldType.int)) ∈ lw_all := lw_g (lw_at lw_m4 30 rfl) rfl
theorem q809 : (Jvm.Cond.methodLink "SiteCuts$State" (149 : Nat) ({ cls := "SiteCuts$State", name := "isLoose", desc := "(LSiteCuts$Cut;I)Z" } : Jvm.MethodName)) ∈ lw_all := lw_g (lw_at lw_m4 31 rfl) rfl
theorem q810 : (Jvm.Cond.privateMethod ({ cls := "SiteCuts$State", name := "isLoose", desc := "(LSiteCuts$Cut;I)Z" } : Jvm.MethodName)) ∈ lw_tbl := lw_at lw_m4 32 rfl
theorem q811 : (Jvm.Cond.instanceMethod ({ cls := "SiteCuts$State", name := "isLoose", desc := "(LSiteCuts$Cut;I)Z" } : Jvm.MethodName)) ∈ lw_all := lw_g (lw_at lw_m4 33 rfl) rfl
theorem q812 : (Jvm.Cond.code ({ cls := "SiteCuts$State", name := "isLoose", desc := "(LSiteCuts$Cut;I)Z" } : Jvm.MethodName) prog_14_method_13_code (3 : Nat) (Option.some Jvm.ClassFile.FieldType.boolean)) ∈ lw_all := lw_g (lw_at lw_m4 34 rfl) rfl
theorem q1043 : (Jvm.Cond.instanceMethod ({ cls := "SiteCuts$State", name := "bestOfAll", desc := "()I" } : Jvm.MethodName)) ∈ lw_all := lw_g (lw_at lw_m5 25 rfl) rfl
theorem q1044 : (Jvm.Cond.selects "SiteCuts$State" ({ cls := "SiteCuts$State", name := "bestOfAll", desc := "()I" } : Jvm.MethodName) ({ cls := "SiteCuts$State", name := "bestOfAll", desc := "()I" } : Jvm.MethodName)) ∈ lw_all := lw_g (lw_at lw_m5 26 rfl) rfl
theorem q1045 : (Jvm.Cond.code ({ cls := "SiteCuts$State", name := "bestOfAll", desc := "()I" } : Jvm.MethodName) prog_14_method_9_code (1 : Nat) (Option.some Jvm.ClassFile.FieldType.int)) ∈ lw_all := lw_g (lw_at lw_m5 27 rfl) rfl
theorem q1046 : (Jvm.Cond.privateMethod ({ cls := "SiteCuts$State", name := "lambda$bestOfAll$2", desc := "(I)Z" } : Jvm.MethodName)) ∈ lw_tbl := lw_at lw_m5 28 rfl
theorem q1047 : (Jvm.Cond.instanceMethod ({ cls := "SiteCuts$State", name := "lambda$bestOfAll$2", desc := "(I)Z" } : Jvm.MethodName)) ∈ lw_all := lw_g (lw_at lw_m5 29 rfl) rfl
theorem q1048 : (Jvm.Cond.code ({ cls := "SiteCuts$State", name := "lambda$bestOfAll$2", desc := "(I)Z" } : Jvm.MethodName) prog_14_method_16_code (2 : Nat) (Option.some Jvm.ClassFile.FieldType.boolean)) ∈ lw_all := lw_g (lw_at lw_m5 30 rfl) rfl
theorem q1049 : (Jvm.Cond.methodLink "SiteCuts$State" (153 : Nat) ({ cls := "SiteCuts$Land", name := "isFeasible", desc := "(I)Z" } : Jvm.MethodName)) ∈ lw_all := lw_g (lw_at lw_m5 31 rfl) rfl
theorem q1050 : (Jvm.Cond.privateMethod ({ cls := "SiteCuts$State", name := "lambda$bestOfAll$3", desc := "(I)I" } : Jvm.MethodName)) ∈ lw_tbl := lw_at lw_m5 32 rfl
theorem q1051 : (Jvm.Cond.instanceMethod ({ cls := "SiteCuts$State", name := "lambda$bestOfAll$3", desc := "(I)I" } : Jvm.MethodName)) ∈ lw_all := lw_g (lw_at lw_m5 33 rfl) rfl
theorem q1052 : (Jvm.Cond.code ({ cls := "SiteCuts$State", name := "lambda$bestOfAll$3", desc := "(I)I" } : Jvm.MethodName) prog_14_method_15_code (2 : Nat) (Option.some Jvm.ClassFile.FieldType.int)) ∈ lw_all := lw_g (lw_at lw_m5 34 rfl) rfl
theorem q1385 : (Jvm.Cond.castable "SiteCuts$State" "java/lang/Object") ∈ lw_tbl := lw_at lw_m6 127 rfl
theorem in_X1 : ∀ w ∈ wsX10, w ∈ lw_all := lw_in wsX10 [179, 181, 183, 185] (by decide +kernel) (by decide +kernel)

/-! SiteCuts$Land -/
set_option maxRecDepth 100000
def RX2 : String := "SiteCuts$Land"
def TX2 : u_T := fun k => match k with
  | 0 => ("SiteCuts$Land", "prices", "[I", true)
  | 1 => ("SiteCuts$Land", "excluded", "[I", true)
  | 2 => ("SiteCuts$Land", "demands", "[I", true)
  | 3 => ("SiteCuts$Land", "routes", "[I", true)
  | 4 => ("SiteCuts$Land", "sites", "I", false)
  | 5 => ("SiteCuts$Land", "customers", "I", false)
  | _ => ("SiteCuts$Land", "most", "I", false)
def tyX2 : Nat → FieldType := fun k => match k with
  | 0 => .array .int
  | 1 => .array .int
  | 2 => .array .int
  | 3 => .array .int
  | 4 => .int
  | 5 => .int
  | _ => .int
abbrev wsX20 : List Cond := u_ws RX2 TX2 7
theorem nmX2 : ∀ a, a < 7 → ∀ b, b < 7 → a ≠ b → (TX2 a).2.1 ≠ (TX2 b).2.1 := by decide +kernel
theorem tyX2_ok : ∀ k, k < 7 → parseFieldDescriptor (TX2 k).2.2.1 = some (tyX2 k) := by decide +kernel
abbrev cX2_init : ByteArray := prog_9_method_1_code
def yX2_init : MethodName := ⟨RX2, "<init>", "()V"⟩
def dkwX2_init_2 : List UInt8 := [180, 0, 21, 190, 162, 0, 17, 42, 180, 0, 21, 27, 16, 100, 79, 132, 1, 1, 167, 255, 236, 177]
abbrev dktX2_init_2 : List UInt8 := dkwX2_init_2 ++ []
def dkwX2_init_1 : List UInt8 := [188, 10, 181, 0, 18, 42, 16, 56, 188, 10, 181, 0, 21, 42, 16, 7, 181, 0, 24, 3, 60, 27, 42]
abbrev dktX2_init_1 : List UInt8 := dkwX2_init_1 ++ dktX2_init_2
def dkwX2_init_0 : List UInt8 := [42, 183, 0, 3, 42, 16, 7, 188, 10, 181, 0, 9, 42, 16, 7, 188, 10, 181, 0, 15, 42, 16, 8]
abbrev dktX2_init_0 : List UInt8 := dkwX2_init_0 ++ dktX2_init_1
theorem dksX2_init_0 : cX2_init.data.toList.drop 0 = dktX2_init_0 := by decide +kernel
theorem dksX2_init_1 : cX2_init.data.toList.drop 23 = dktX2_init_1 := dk_seg dksX2_init_0 23 rfl rfl
theorem dksX2_init_2 : cX2_init.data.toList.drop 46 = dktX2_init_2 := dk_seg dksX2_init_1 23 rfl rfl
theorem dX2_init_0 : decode cX2_init 0 = .ok (.aload_n 0, 1) := dk_42 (dk_at dksX2_init_0 0 rfl rfl)
theorem dX2_init_1 : decode cX2_init 1 = .ok (.invokespecial 3, 3) := dk_183 0 3 (dk_at dksX2_init_0 1 rfl rfl)
theorem dX2_init_4 : decode cX2_init 4 = .ok (.aload_n 0, 1) := dk_42 (dk_at dksX2_init_0 4 rfl rfl)
theorem dX2_init_5 : decode cX2_init 5 = .ok (.bipush 7, 2) := dk_16 7 (dk_at dksX2_init_0 5 rfl rfl)
theorem dX2_init_7 : decode cX2_init 7 = .ok (.newarray .int, 2) := dk_188_10 (dk_at dksX2_init_0 7 rfl rfl)
theorem dX2_init_9 : decode cX2_init 9 = .ok (.putfield 9, 3) := dk_181 0 9 (dk_at dksX2_init_0 9 rfl rfl)
theorem dX2_init_12 : decode cX2_init 12 = .ok (.aload_n 0, 1) := dk_42 (dk_at dksX2_init_0 12 rfl rfl)
theorem dX2_init_13 : decode cX2_init 13 = .ok (.bipush 7, 2) := dk_16 7 (dk_at dksX2_init_0 13 rfl rfl)
theorem dX2_init_15 : decode cX2_init 15 = .ok (.newarray .int, 2) := dk_188_10 (dk_at dksX2_init_0 15 rfl rfl)
theorem dX2_init_17 : decode cX2_init 17 = .ok (.putfield 15, 3) := dk_181 0 15 (dk_at dksX2_init_0 17 rfl rfl)
theorem dX2_init_20 : decode cX2_init 20 = .ok (.aload_n 0, 1) := dk_42 (dk_at dksX2_init_0 20 rfl rfl)
theorem dX2_init_21 : decode cX2_init 21 = .ok (.bipush 8, 2) := dk_16 8 (dk_at dksX2_init_0 21 rfl rfl)
theorem dX2_init_23 : decode cX2_init 23 = .ok (.newarray .int, 2) := dk_188_10 (dk_at dksX2_init_1 0 rfl rfl)
theorem dX2_init_25 : decode cX2_init 25 = .ok (.putfield 18, 3) := dk_181 0 18 (dk_at dksX2_init_1 2 rfl rfl)
theorem dX2_init_28 : decode cX2_init 28 = .ok (.aload_n 0, 1) := dk_42 (dk_at dksX2_init_1 5 rfl rfl)
theorem dX2_init_29 : decode cX2_init 29 = .ok (.bipush 56, 2) := dk_16 56 (dk_at dksX2_init_1 6 rfl rfl)
theorem dX2_init_31 : decode cX2_init 31 = .ok (.newarray .int, 2) := dk_188_10 (dk_at dksX2_init_1 8 rfl rfl)
theorem dX2_init_33 : decode cX2_init 33 = .ok (.putfield 21, 3) := dk_181 0 21 (dk_at dksX2_init_1 10 rfl rfl)
theorem dX2_init_36 : decode cX2_init 36 = .ok (.aload_n 0, 1) := dk_42 (dk_at dksX2_init_1 13 rfl rfl)
theorem dX2_init_37 : decode cX2_init 37 = .ok (.bipush 7, 2) := dk_16 7 (dk_at dksX2_init_1 14 rfl rfl)
theorem dX2_init_39 : decode cX2_init 39 = .ok (.putfield 24, 3) := dk_181 0 24 (dk_at dksX2_init_1 16 rfl rfl)
theorem dX2_init_42 : decode cX2_init 42 = .ok (.iconst 0, 1) := dk_3 (dk_at dksX2_init_1 19 rfl rfl)
theorem dX2_init_43 : decode cX2_init 43 = .ok (.istore_n 1, 1) := dk_60 (dk_at dksX2_init_1 20 rfl rfl)
theorem dX2_init_44 : decode cX2_init 44 = .ok (.iload_n 1, 1) := dk_27 (dk_at dksX2_init_1 21 rfl rfl)
theorem dX2_init_45 : decode cX2_init 45 = .ok (.aload_n 0, 1) := dk_42 (dk_at dksX2_init_1 22 rfl rfl)
theorem dX2_init_46 : decode cX2_init 46 = .ok (.getfield 21, 3) := dk_180 0 21 (dk_at dksX2_init_2 0 rfl rfl)
theorem dX2_init_49 : decode cX2_init 49 = .ok (.arraylength, 1) := dk_190 (dk_at dksX2_init_2 3 rfl rfl)
theorem dX2_init_50 : decode cX2_init 50 = .ok (.if_icmp .ge 17, 3) := dk_162 0 17 (dk_at dksX2_init_2 4 rfl rfl)
theorem dX2_init_53 : decode cX2_init 53 = .ok (.aload_n 0, 1) := dk_42 (dk_at dksX2_init_2 7 rfl rfl)
theorem dX2_init_54 : decode cX2_init 54 = .ok (.getfield 21, 3) := dk_180 0 21 (dk_at dksX2_init_2 8 rfl rfl)
theorem dX2_init_57 : decode cX2_init 57 = .ok (.iload_n 1, 1) := dk_27 (dk_at dksX2_init_2 11 rfl rfl)
theorem dX2_init_58 : decode cX2_init 58 = .ok (.bipush 100, 2) := dk_16 100 (dk_at dksX2_init_2 12 rfl rfl)
theorem dX2_init_60 : decode cX2_init 60 = .ok (.iastore, 1) := dk_79 (dk_at dksX2_init_2 14 rfl rfl)
theorem dX2_init_61 : decode cX2_init 61 = .ok (.iinc 1 1, 3) := dk_132 1 1 (dk_at dksX2_init_2 15 rfl rfl)
theorem dX2_init_64 : decode cX2_init 64 = .ok (.goto (-20), 3) := dk_167 255 236 (dk_at dksX2_init_2 18 rfl rfl)
theorem dX2_init_67 : decode cX2_init 67 = .ok (.return_, 1) := dk_177 (dk_at dksX2_init_2 21 rfl rfl)
abbrev cX2_copy : ByteArray := prog_9_method_2_code
def yX2_copy : MethodName := ⟨RX2, "copy", "()LSiteCuts$Land;"⟩
def dkwX2_copy_4 : List UInt8 := [176]
abbrev dktX2_copy_4 : List UInt8 := dkwX2_copy_4 ++ []
def dkwX2_copy_3 : List UInt8 := [42, 180, 0, 35, 181, 0, 35, 43, 42, 180, 0, 38, 181, 0, 38, 43, 42, 180, 0, 24, 181, 0, 24, 43]
abbrev dktX2_copy_3 : List UInt8 := dkwX2_copy_3 ++ dktX2_copy_4
def dkwX2_copy_2 : List UInt8 := [16, 8, 184, 0, 29, 42, 180, 0, 21, 3, 43, 180, 0, 21, 3, 42, 180, 0, 21, 190, 184, 0, 29, 43]
abbrev dktX2_copy_2 : List UInt8 := dkwX2_copy_2 ++ dktX2_copy_3
def dkwX2_copy_1 : List UInt8 := [180, 0, 15, 3, 43, 180, 0, 15, 3, 16, 7, 184, 0, 29, 42, 180, 0, 18, 3, 43, 180, 0, 18, 3]
abbrev dktX2_copy_1 : List UInt8 := dkwX2_copy_1 ++ dktX2_copy_2
def dkwX2_copy_0 : List UInt8 := [187, 0, 10, 89, 183, 0, 28, 76, 42, 180, 0, 9, 3, 43, 180, 0, 9, 3, 16, 7, 184, 0, 29, 42]
abbrev dktX2_copy_0 : List UInt8 := dkwX2_copy_0 ++ dktX2_copy_1
theorem dksX2_copy_0 : cX2_copy.data.toList.drop 0 = dktX2_copy_0 := by decide +kernel
theorem dksX2_copy_1 : cX2_copy.data.toList.drop 24 = dktX2_copy_1 := dk_seg dksX2_copy_0 24 rfl rfl
theorem dksX2_copy_2 : cX2_copy.data.toList.drop 48 = dktX2_copy_2 := dk_seg dksX2_copy_1 24 rfl rfl
theorem dksX2_copy_3 : cX2_copy.data.toList.drop 72 = dktX2_copy_3 := dk_seg dksX2_copy_2 24 rfl rfl
theorem dksX2_copy_4 : cX2_copy.data.toList.drop 96 = dktX2_copy_4 := dk_seg dksX2_copy_3 24 rfl rfl
theorem dX2_copy_0 : decode cX2_copy 0 = .ok (.new 10, 3) := dk_187 0 10 (dk_at dksX2_copy_0 0 rfl rfl)
theorem dX2_copy_3 : decode cX2_copy 3 = .ok (.dup, 1) := dk_89 (dk_at dksX2_copy_0 3 rfl rfl)
theorem dX2_copy_4 : decode cX2_copy 4 = .ok (.invokespecial 28, 3) := dk_183 0 28 (dk_at dksX2_copy_0 4 rfl rfl)
theorem dX2_copy_7 : decode cX2_copy 7 = .ok (.astore_n 1, 1) := dk_76 (dk_at dksX2_copy_0 7 rfl rfl)
theorem dX2_copy_8 : decode cX2_copy 8 = .ok (.aload_n 0, 1) := dk_42 (dk_at dksX2_copy_0 8 rfl rfl)
theorem dX2_copy_9 : decode cX2_copy 9 = .ok (.getfield 9, 3) := dk_180 0 9 (dk_at dksX2_copy_0 9 rfl rfl)
theorem dX2_copy_12 : decode cX2_copy 12 = .ok (.iconst 0, 1) := dk_3 (dk_at dksX2_copy_0 12 rfl rfl)
theorem dX2_copy_13 : decode cX2_copy 13 = .ok (.aload_n 1, 1) := dk_43 (dk_at dksX2_copy_0 13 rfl rfl)
theorem dX2_copy_14 : decode cX2_copy 14 = .ok (.getfield 9, 3) := dk_180 0 9 (dk_at dksX2_copy_0 14 rfl rfl)
theorem dX2_copy_17 : decode cX2_copy 17 = .ok (.iconst 0, 1) := dk_3 (dk_at dksX2_copy_0 17 rfl rfl)
theorem dX2_copy_18 : decode cX2_copy 18 = .ok (.bipush 7, 2) := dk_16 7 (dk_at dksX2_copy_0 18 rfl rfl)
theorem dX2_copy_20 : decode cX2_copy 20 = .ok (.invokestatic 29, 3) := dk_184 0 29 (dk_at dksX2_copy_0 20 rfl rfl)
theorem dX2_copy_23 : decode cX2_copy 23 = .ok (.aload_n 0, 1) := dk_42 (dk_at dksX2_copy_0 23 rfl rfl)
theorem dX2_copy_24 : decode cX2_copy 24 = .ok (.getfield 15, 3) := dk_180 0 15 (dk_at dksX2_copy_1 0 rfl rfl)
theorem dX2_copy_27 : decode cX2_copy 27 = .ok (.iconst 0, 1) := dk_3 (dk_at dksX2_copy_1 3 rfl rfl)
theorem dX2_copy_28 : decode cX2_copy 28 = .ok (.aload_n 1, 1) := dk_43 (dk_at dksX2_copy_1 4 rfl rfl)
theorem dX2_copy_29 : decode cX2_copy 29 = .ok (.getfield 15, 3) := dk_180 0 15 (dk_at dksX2_copy_1 5 rfl rfl)
theorem dX2_copy_32 : decode cX2_copy 32 = .ok (.iconst 0, 1) := dk_3 (dk_at dksX2_copy_1 8 rfl rfl)
theorem dX2_copy_33 : decode cX2_copy 33 = .ok (.bipush 7, 2) := dk_16 7 (dk_at dksX2_copy_1 9 rfl rfl)
theorem dX2_copy_35 : decode cX2_copy 35 = .ok (.invokestatic 29, 3) := dk_184 0 29 (dk_at dksX2_copy_1 11 rfl rfl)
theorem dX2_copy_38 : decode cX2_copy 38 = .ok (.aload_n 0, 1) := dk_42 (dk_at dksX2_copy_1 14 rfl rfl)
theorem dX2_copy_39 : decode cX2_copy 39 = .ok (.getfield 18, 3) := dk_180 0 18 (dk_at dksX2_copy_1 15 rfl rfl)
theorem dX2_copy_42 : decode cX2_copy 42 = .ok (.iconst 0, 1) := dk_3 (dk_at dksX2_copy_1 18 rfl rfl)
theorem dX2_copy_43 : decode cX2_copy 43 = .ok (.aload_n 1, 1) := dk_43 (dk_at dksX2_copy_1 19 rfl rfl)
theorem dX2_copy_44 : decode cX2_copy 44 = .ok (.getfield 18, 3) := dk_180 0 18 (dk_at dksX2_copy_1 20 rfl rfl)
theorem dX2_copy_47 : decode cX2_copy 47 = .ok (.iconst 0, 1) := dk_3 (dk_at dksX2_copy_1 23 rfl rfl)
theorem dX2_copy_48 : decode cX2_copy 48 = .ok (.bipush 8, 2) := dk_16 8 (dk_at dksX2_copy_2 0 rfl rfl)
theorem dX2_copy_50 : decode cX2_copy 50 = .ok (.invokestatic 29, 3) := dk_184 0 29 (dk_at dksX2_copy_2 2 rfl rfl)
theorem dX2_copy_53 : decode cX2_copy 53 = .ok (.aload_n 0, 1) := dk_42 (dk_at dksX2_copy_2 5 rfl rfl)
theorem dX2_copy_54 : decode cX2_copy 54 = .ok (.getfield 21, 3) := dk_180 0 21 (dk_at dksX2_copy_2 6 rfl rfl)
theorem dX2_copy_57 : decode cX2_copy 57 = .ok (.iconst 0, 1) := dk_3 (dk_at dksX2_copy_2 9 rfl rfl)
theorem dX2_copy_58 : decode cX2_copy 58 = .ok (.aload_n 1, 1) := dk_43 (dk_at dksX2_copy_2 10 rfl rfl)
theorem dX2_copy_59 : decode cX2_copy 59 = .ok (.getfield 21, 3) := dk_180 0 21 (dk_at dksX2_copy_2 11 rfl rfl)
theorem dX2_copy_62 : decode cX2_copy 62 = .ok (.iconst 0, 1) := dk_3 (dk_at dksX2_copy_2 14 rfl rfl)
theorem dX2_copy_63 : decode cX2_copy 63 = .ok (.aload_n 0, 1) := dk_42 (dk_at dksX2_copy_2 15 rfl rfl)
theorem dX2_copy_64 : decode cX2_copy 64 = .ok (.getfield 21, 3) := dk_180 0 21 (dk_at dksX2_copy_2 16 rfl rfl)
theorem dX2_copy_67 : decode cX2_copy 67 = .ok (.arraylength, 1) := dk_190 (dk_at dksX2_copy_2 19 rfl rfl)
theorem dX2_copy_68 : decode cX2_copy 68 = .ok (.invokestatic 29, 3) := dk_184 0 29 (dk_at dksX2_copy_2 20 rfl rfl)
theorem dX2_copy_71 : decode cX2_copy 71 = .ok (.aload_n 1, 1) := dk_43 (dk_at dksX2_copy_2 23 rfl rfl)
theorem dX2_copy_72 : decode cX2_copy 72 = .ok (.aload_n 0, 1) := dk_42 (dk_at dksX2_copy_3 0 rfl rfl)
theorem dX2_copy_73 : decode cX2_copy 73 = .ok (.getfield 35, 3) := dk_180 0 35 (dk_at dksX2_copy_3 1 rfl rfl)
theorem dX2_copy_76 : decode cX2_copy 76 = .ok (.putfield 35, 3) := dk_181 0 35 (dk_at dksX2_copy_3 4 rfl rfl)
theorem dX2_copy_79 : decode cX2_copy 79 = .ok (.aload_n 1, 1) := dk_43 (dk_at dksX2_copy_3 7 rfl rfl)
theorem dX2_copy_80 : decode cX2_copy 80 = .ok (.aload_n 0, 1) := dk_42 (dk_at dksX2_copy_3 8 rfl rfl)
theorem dX2_copy_81 : decode cX2_copy 81 = .ok (.getfield 38, 3) := dk_180 0 38 (dk_at dksX2_copy_3 9 rfl rfl)
theorem dX2_copy_84 : decode cX2_copy 84 = .ok (.putfield 38, 3) := dk_181 0 38 (dk_at dksX2_copy_3 12 rfl rfl)
theorem dX2_copy_87 : decode cX2_copy 87 = .ok (.aload_n 1, 1) := dk_43 (dk_at dksX2_copy_3 15 rfl rfl)
theorem dX2_copy_88 : decode cX2_copy 88 = .ok (.aload_n 0, 1) := dk_42 (dk_at dksX2_copy_3 16 rfl rfl)
theorem dX2_copy_89 : decode cX2_copy 89 = .ok (.getfield 24, 3) := dk_180 0 24 (dk_at dksX2_copy_3 17 rfl rfl)
theorem dX2_copy_92 : decode cX2_copy 92 = .ok (.putfield 24, 3) := dk_181 0 24 (dk_at dksX2_copy_3 20 rfl rfl)
theorem dX2_copy_95 : decode cX2_copy 95 = .ok (.aload_n 1, 1) := dk_43 (dk_at dksX2_copy_3 23 rfl rfl)
theorem dX2_copy_96 : decode cX2_copy 96 = .ok (.areturn, 1) := dk_176 (dk_at dksX2_copy_4 0 rfl rfl)
abbrev cX2_route : ByteArray := prog_9_method_3_code
def yX2_route : MethodName := ⟨RX2, "route", "(II)I"⟩
def dkwX2_route_0 : List UInt8 := [42, 180, 0, 21, 16, 8, 27, 104, 28, 96, 46, 172]
abbrev dktX2_route_0 : List UInt8 := dkwX2_route_0 ++ []
theorem dksX2_route_0 : cX2_route.data.toList.drop 0 = dktX2_route_0 := by decide +kernel
theorem dX2_route_0 : decode cX2_route 0 = .ok (.aload_n 0, 1) := dk_42 (dk_at dksX2_route_0 0 rfl rfl)
theorem dX2_route_1 : decode cX2_route 1 = .ok (.getfield 21, 3) := dk_180 0 21 (dk_at dksX2_route_0 1 rfl rfl)
theorem dX2_route_4 : decode cX2_route 4 = .ok (.bipush 8, 2) := dk_16 8 (dk_at dksX2_route_0 4 rfl rfl)
theorem dX2_route_6 : decode cX2_route 6 = .ok (.iload_n 1, 1) := dk_27 (dk_at dksX2_route_0 6 rfl rfl)
theorem dX2_route_7 : decode cX2_route 7 = .ok (.imul, 1) := dk_104 (dk_at dksX2_route_0 7 rfl rfl)
theorem dX2_route_8 : decode cX2_route 8 = .ok (.iload_n 2, 1) := dk_28 (dk_at dksX2_route_0 8 rfl rfl)
theorem dX2_route_9 : decode cX2_route 9 = .ok (.iadd, 1) := dk_96 (dk_at dksX2_route_0 9 rfl rfl)
theorem dX2_route_10 : decode cX2_route 10 = .ok (.iaload, 1) := dk_46 (dk_at dksX2_route_0 10 rfl rfl)
theorem dX2_route_11 : decode cX2_route 11 = .ok (.ireturn, 1) := dk_172 (dk_at dksX2_route_0 11 rfl rfl)
abbrev cX2_isAllowed : ByteArray := prog_9_method_11_code
def yX2_isAllowed : MethodName := ⟨RX2, "isAllowed", "(I)Z"⟩
def dkwX2_isAllowed_1 : List UInt8 := [167, 0, 4, 3, 172]
abbrev dktX2_isAllowed_1 : List UInt8 := dkwX2_isAllowed_1 ++ []
def dkwX2_isAllowed_0 : List UInt8 := [178, 0, 59, 42, 27, 182, 0, 65, 154, 0, 18, 178, 0, 69, 42, 27, 182, 0, 65, 154, 0, 7, 4]
abbrev dktX2_isAllowed_0 : List UInt8 := dkwX2_isAllowed_0 ++ dktX2_isAllowed_1
theorem dksX2_isAllowed_0 : cX2_isAllowed.data.toList.drop 0 = dktX2_isAllowed_0 := by decide +kernel
theorem dksX2_isAllowed_1 : cX2_isAllowed.data.toList.drop 23 = dktX2_isAllowed_1 := dk_seg dksX2_isAllowed_0 23 rfl rfl
theorem dX2_isAllowed_0 : decode cX2_isAllowed 0 = .ok (.getstatic 59, 3) := dk_178 0 59 (dk_at dksX2_isAllowed_0 0 rfl rfl)
theorem dX2_isAllowed_3 : decode cX2_isAllowed 3 = .ok (.aload_n 0, 1) := dk_42 (dk_at dksX2_isAllowed_0 3 rfl rfl)
theorem dX2_isAllowed_4 : decode cX2_isAllowed 4 = .ok (.iload_n 1, 1) := dk_27 (dk_at dksX2_isAllowed_0 4 rfl rfl)
theorem dX2_isAllowed_5 : decode cX2_isAllowed 5 = .ok (.invokevirtual 65, 3) := dk_182 0 65 (dk_at dksX2_isAllowed_0 5 rfl rfl)
theorem dX2_isAllowed_8 : decode cX2_isAllowed 8 = .ok (.ifCond .ne 18, 3) := dk_154 0 18 (dk_at dksX2_isAllowed_0 8 rfl rfl)
theorem dX2_isAllowed_11 : decode cX2_isAllowed 11 = .ok (.getstatic 69, 3) := dk_178 0 69 (dk_at dksX2_isAllowed_0 11 rfl rfl)
theorem dX2_isAllowed_14 : decode cX2_isAllowed 14 = .ok (.aload_n 0, 1) := dk_42 (dk_at dksX2_isAllowed_0 14 rfl rfl)
theorem dX2_isAllowed_15 : decode cX2_isAllowed 15 = .ok (.iload_n 1, 1) := dk_27 (dk_at dksX2_isAllowed_0 15 rfl rfl)
theorem dX2_isAllowed_16 : decode cX2_isAllowed 16 = .ok (.invokevirtual 65, 3) := dk_182 0 65 (dk_at dksX2_isAllowed_0 16 rfl rfl)
theorem dX2_isAllowed_19 : decode cX2_isAllowed 19 = .ok (.ifCond .ne 7, 3) := dk_154 0 7 (dk_at dksX2_isAllowed_0 19 rfl rfl)
theorem dX2_isAllowed_22 : decode cX2_isAllowed 22 = .ok (.iconst 1, 1) := dk_4 (dk_at dksX2_isAllowed_0 22 rfl rfl)
theorem dX2_isAllowed_23 : decode cX2_isAllowed 23 = .ok (.goto 4, 3) := dk_167 0 4 (dk_at dksX2_isAllowed_1 0 rfl rfl)
theorem dX2_isAllowed_26 : decode cX2_isAllowed 26 = .ok (.iconst 0, 1) := dk_3 (dk_at dksX2_isAllowed_1 3 rfl rfl)
theorem dX2_isAllowed_27 : decode cX2_isAllowed 27 = .ok (.ireturn, 1) := dk_172 (dk_at dksX2_isAllowed_1 4 rfl rfl)
abbrev cX2_lost : ByteArray := prog_9_method_7_code
def yX2_lost : MethodName := ⟨RX2, "lost", "(I)I"⟩
def dkwX2_lost_1 : List UInt8 := [132, 2, 1, 167, 255, 232, 16, 251, 172]
abbrev dktX2_lost_1 : List UInt8 := dkwX2_lost_1 ++ []
def dkwX2_lost_0 : List UInt8 := [3, 61, 28, 42, 180, 0, 38, 162, 0, 22, 42, 27, 28, 182, 0, 49, 16, 251, 160, 0, 5, 28, 172]
abbrev dktX2_lost_0 : List UInt8 := dkwX2_lost_0 ++ dktX2_lost_1
theorem dksX2_lost_0 : cX2_lost.data.toList.drop 0 = dktX2_lost_0 := by decide +kernel
theorem dksX2_lost_1 : cX2_lost.data.toList.drop 23 = dktX2_lost_1 := dk_seg dksX2_lost_0 23 rfl rfl
theorem dX2_lost_0 : decode cX2_lost 0 = .ok (.iconst 0, 1) := dk_3 (dk_at dksX2_lost_0 0 rfl rfl)
theorem dX2_lost_1 : decode cX2_lost 1 = .ok (.istore_n 2, 1) := dk_61 (dk_at dksX2_lost_0 1 rfl rfl)
theorem dX2_lost_2 : decode cX2_lost 2 = .ok (.iload_n 2, 1) := dk_28 (dk_at dksX2_lost_0 2 rfl rfl)
theorem dX2_lost_3 : decode cX2_lost 3 = .ok (.aload_n 0, 1) := dk_42 (dk_at dksX2_lost_0 3 rfl rfl)
theorem dX2_lost_4 : decode cX2_lost 4 = .ok (.getfield 38, 3) := dk_180 0 38 (dk_at dksX2_lost_0 4 rfl rfl)
theorem dX2_lost_7 : decode cX2_lost 7 = .ok (.if_icmp .ge 22, 3) := dk_162 0 22 (dk_at dksX2_lost_0 7 rfl rfl)
theorem dX2_lost_10 : decode cX2_lost 10 = .ok (.aload_n 0, 1) := dk_42 (dk_at dksX2_lost_0 10 rfl rfl)
theorem dX2_lost_11 : decode cX2_lost 11 = .ok (.iload_n 1, 1) := dk_27 (dk_at dksX2_lost_0 11 rfl rfl)
theorem dX2_lost_12 : decode cX2_lost 12 = .ok (.iload_n 2, 1) := dk_28 (dk_at dksX2_lost_0 12 rfl rfl)
theorem dX2_lost_13 : decode cX2_lost 13 = .ok (.invokevirtual 49, 3) := dk_182 0 49 (dk_at dksX2_lost_0 13 rfl rfl)
theorem dX2_lost_16 : decode cX2_lost 16 = .ok (.bipush (-5), 2) := dk_16 251 (dk_at dksX2_lost_0 16 rfl rfl)
theorem dX2_lost_18 : decode cX2_lost 18 = .ok (.if_icmp .ne 5, 3) := dk_160 0 5 (dk_at dksX2_lost_0 18 rfl rfl)
theorem dX2_lost_21 : decode cX2_lost 21 = .ok (.iload_n 2, 1) := dk_28 (dk_at dksX2_lost_0 21 rfl rfl)
theorem dX2_lost_22 : decode cX2_lost 22 = .ok (.ireturn, 1) := dk_172 (dk_at dksX2_lost_0 22 rfl rfl)
theorem dX2_lost_23 : decode cX2_lost 23 = .ok (.iinc 2 1, 3) := dk_132 2 1 (dk_at dksX2_lost_1 0 rfl rfl)
theorem dX2_lost_26 : decode cX2_lost 26 = .ok (.goto (-24), 3) := dk_167 255 232 (dk_at dksX2_lost_1 3 rfl rfl)
theorem dX2_lost_29 : decode cX2_lost 29 = .ok (.bipush (-5), 2) := dk_16 251 (dk_at dksX2_lost_1 6 rfl rfl)
theorem dX2_lost_31 : decode cX2_lost 31 = .ok (.ireturn, 1) := dk_172 (dk_at dksX2_lost_1 8 rfl rfl)
abbrev cX2_server : ByteArray := prog_9_method_6_code
def yX2_server : MethodName := ⟨RX2, "server", "(II)I"⟩
def dkwX2_server_2 : List UInt8 := [162, 0, 6, 21, 4, 62, 132, 4, 1, 167, 255, 205, 29, 172]
abbrev dktX2_server_2 : List UInt8 := dkwX2_server_2 ++ []
def dkwX2_server_1 : List UInt8 := [42, 21, 4, 28, 182, 0, 45, 29, 16, 251, 160, 0, 8, 16, 100, 167, 0, 9, 42, 29, 28, 182, 0, 45]
abbrev dktX2_server_1 : List UInt8 := dkwX2_server_1 ++ dktX2_server_2
def dkwX2_server_0 : List UInt8 := [16, 251, 62, 3, 54, 4, 21, 4, 42, 180, 0, 35, 162, 0, 48, 27, 21, 4, 184, 0, 41, 153, 0, 33]
abbrev dktX2_server_0 : List UInt8 := dkwX2_server_0 ++ dktX2_server_1
theorem dksX2_server_0 : cX2_server.data.toList.drop 0 = dktX2_server_0 := by decide +kernel
theorem dksX2_server_1 : cX2_server.data.toList.drop 24 = dktX2_server_1 := dk_seg dksX2_server_0 24 rfl rfl
theorem dksX2_server_2 : cX2_server.data.toList.drop 48 = dktX2_server_2 := dk_seg dksX2_server_1 24 rfl rfl
theorem dX2_server_0 : decode cX2_server 0 = .ok (.bipush (-5), 2) := dk_16 251 (dk_at dksX2_server_0 0 rfl rfl)
theorem dX2_server_2 : decode cX2_server 2 = .ok (.istore_n 3, 1) := dk_62 (dk_at dksX2_server_0 2 rfl rfl)
theorem dX2_server_3 : decode cX2_server 3 = .ok (.iconst 0, 1) := dk_3 (dk_at dksX2_server_0 3 rfl rfl)
theorem dX2_server_4 : decode cX2_server 4 = .ok (.istore 4, 2) := dk_54 4 (dk_at dksX2_server_0 4 rfl rfl)
theorem dX2_server_6 : decode cX2_server 6 = .ok (.iload 4, 2) := dk_21 4 (dk_at dksX2_server_0 6 rfl rfl)
theorem dX2_server_8 : decode cX2_server 8 = .ok (.aload_n 0, 1) := dk_42 (dk_at dksX2_server_0 8 rfl rfl)
theorem dX2_server_9 : decode cX2_server 9 = .ok (.getfield 35, 3) := dk_180 0 35 (dk_at dksX2_server_0 9 rfl rfl)
theorem dX2_server_12 : decode cX2_server 12 = .ok (.if_icmp .ge 48, 3) := dk_162 0 48 (dk_at dksX2_server_0 12 rfl rfl)
theorem dX2_server_15 : decode cX2_server 15 = .ok (.iload_n 1, 1) := dk_27 (dk_at dksX2_server_0 15 rfl rfl)
theorem dX2_server_16 : decode cX2_server 16 = .ok (.iload 4, 2) := dk_21 4 (dk_at dksX2_server_0 16 rfl rfl)
theorem dX2_server_18 : decode cX2_server 18 = .ok (.invokestatic 41, 3) := dk_184 0 41 (dk_at dksX2_server_0 18 rfl rfl)
theorem dX2_server_21 : decode cX2_server 21 = .ok (.ifCond .eq 33, 3) := dk_153 0 33 (dk_at dksX2_server_0 21 rfl rfl)
theorem dX2_server_24 : decode cX2_server 24 = .ok (.aload_n 0, 1) := dk_42 (dk_at dksX2_server_1 0 rfl rfl)
theorem dX2_server_25 : decode cX2_server 25 = .ok (.iload 4, 2) := dk_21 4 (dk_at dksX2_server_1 1 rfl rfl)
theorem dX2_server_27 : decode cX2_server 27 = .ok (.iload_n 2, 1) := dk_28 (dk_at dksX2_server_1 3 rfl rfl)
theorem dX2_server_28 : decode cX2_server 28 = .ok (.invokevirtual 45, 3) := dk_182 0 45 (dk_at dksX2_server_1 4 rfl rfl)
theorem dX2_server_31 : decode cX2_server 31 = .ok (.iload_n 3, 1) := dk_29 (dk_at dksX2_server_1 7 rfl rfl)
theorem dX2_server_32 : decode cX2_server 32 = .ok (.bipush (-5), 2) := dk_16 251 (dk_at dksX2_server_1 8 rfl rfl)
theorem dX2_server_34 : decode cX2_server 34 = .ok (.if_icmp .ne 8, 3) := dk_160 0 8 (dk_at dksX2_server_1 10 rfl rfl)
theorem dX2_server_37 : decode cX2_server 37 = .ok (.bipush 100, 2) := dk_16 100 (dk_at dksX2_server_1 13 rfl rfl)
theorem dX2_server_39 : decode cX2_server 39 = .ok (.goto 9, 3) := dk_167 0 9 (dk_at dksX2_server_1 15 rfl rfl)
theorem dX2_server_42 : decode cX2_server 42 = .ok (.aload_n 0, 1) := dk_42 (dk_at dksX2_server_1 18 rfl rfl)
theorem dX2_server_43 : decode cX2_server 43 = .ok (.iload_n 3, 1) := dk_29 (dk_at dksX2_server_1 19 rfl rfl)
theorem dX2_server_44 : decode cX2_server 44 = .ok (.iload_n 2, 1) := dk_28 (dk_at dksX2_server_1 20 rfl rfl)
theorem dX2_server_45 : decode cX2_server 45 = .ok (.invokevirtual 45, 3) := dk_182 0 45 (dk_at dksX2_server_1 21 rfl rfl)
theorem dX2_server_48 : decode cX2_server 48 = .ok (.if_icmp .ge 6, 3) := dk_162 0 6 (dk_at dksX2_server_2 0 rfl rfl)
theorem dX2_server_51 : decode cX2_server 51 = .ok (.iload 4, 2) := dk_21 4 (dk_at dksX2_server_2 3 rfl rfl)
theorem dX2_server_53 : decode cX2_server 53 = .ok (.istore_n 3, 1) := dk_62 (dk_at dksX2_server_2 5 rfl rfl)
theorem dX2_server_54 : decode cX2_server 54 = .ok (.iinc 4 1, 3) := dk_132 4 1 (dk_at dksX2_server_2 6 rfl rfl)
theorem dX2_server_57 : decode cX2_server 57 = .ok (.goto (-51), 3) := dk_167 255 205 (dk_at dksX2_server_2 9 rfl rfl)
theorem dX2_server_60 : decode cX2_server 60 = .ok (.iload_n 3, 1) := dk_29 (dk_at dksX2_server_2 12 rfl rfl)
theorem dX2_server_61 : decode cX2_server 61 = .ok (.ireturn, 1) := dk_172 (dk_at dksX2_server_2 13 rfl rfl)
abbrev cX2_routesOf : ByteArray := prog_9_method_8_code
def yX2_routesOf : MethodName := ⟨RX2, "routesOf", "(I)I"⟩
def dkwX2_routesOf_1 : List UInt8 := [182, 0, 49, 29, 182, 0, 45, 104, 96, 61, 132, 3, 1, 167, 255, 224, 28, 172]
abbrev dktX2_routesOf_1 : List UInt8 := dkwX2_routesOf_1 ++ []
def dkwX2_routesOf_0 : List UInt8 := [3, 61, 3, 62, 29, 42, 180, 0, 38, 162, 0, 30, 28, 42, 180, 0, 18, 29, 46, 42, 42, 27, 29]
abbrev dktX2_routesOf_0 : List UInt8 := dkwX2_routesOf_0 ++ dktX2_routesOf_1
theorem dksX2_routesOf_0 : cX2_routesOf.data.toList.drop 0 = dktX2_routesOf_0 := by decide +kernel
theorem dksX2_routesOf_1 : cX2_routesOf.data.toList.drop 23 = dktX2_routesOf_1 := dk_seg dksX2_routesOf_0 23 rfl rfl
theorem dX2_routesOf_0 : decode cX2_routesOf 0 = .ok (.iconst 0, 1) := dk_3 (dk_at dksX2_routesOf_0 0 rfl rfl)
theorem dX2_routesOf_1 : decode cX2_routesOf 1 = .ok (.istore_n 2, 1) := dk_61 (dk_at dksX2_routesOf_0 1 rfl rfl)
theorem dX2_routesOf_2 : decode cX2_routesOf 2 = .ok (.iconst 0, 1) := dk_3 (dk_at dksX2_routesOf_0 2 rfl rfl)
theorem dX2_routesOf_3 : decode cX2_routesOf 3 = .ok (.istore_n 3, 1) := dk_62 (dk_at dksX2_routesOf_0 3 rfl rfl)
theorem dX2_routesOf_4 : decode cX2_routesOf 4 = .ok (.iload_n 3, 1) := dk_29 (dk_at dksX2_routesOf_0 4 rfl rfl)
theorem dX2_routesOf_5 : decode cX2_routesOf 5 = .ok (.aload_n 0, 1) := dk_42 (dk_at dksX2_routesOf_0 5 rfl rfl)
theorem dX2_routesOf_6 : decode cX2_routesOf 6 = .ok (.getfield 38, 3) := dk_180 0 38 (dk_at dksX2_routesOf_0 6 rfl rfl)
theorem dX2_routesOf_9 : decode cX2_routesOf 9 = .ok (.if_icmp .ge 30, 3) := dk_162 0 30 (dk_at dksX2_routesOf_0 9 rfl rfl)
theorem dX2_routesOf_12 : decode cX2_routesOf 12 = .ok (.iload_n 2, 1) := dk_28 (dk_at dksX2_routesOf_0 12 rfl rfl)
theorem dX2_routesOf_13 : decode cX2_routesOf 13 = .ok (.aload_n 0, 1) := dk_42 (dk_at dksX2_routesOf_0 13 rfl rfl)
theorem dX2_routesOf_14 : decode cX2_routesOf 14 = .ok (.getfield 18, 3) := dk_180 0 18 (dk_at dksX2_routesOf_0 14 rfl rfl)
theorem dX2_routesOf_17 : decode cX2_routesOf 17 = .ok (.iload_n 3, 1) := dk_29 (dk_at dksX2_routesOf_0 17 rfl rfl)
theorem dX2_routesOf_18 : decode cX2_routesOf 18 = .ok (.iaload, 1) := dk_46 (dk_at dksX2_routesOf_0 18 rfl rfl)
theorem dX2_routesOf_19 : decode cX2_routesOf 19 = .ok (.aload_n 0, 1) := dk_42 (dk_at dksX2_routesOf_0 19 rfl rfl)
theorem dX2_routesOf_20 : decode cX2_routesOf 20 = .ok (.aload_n 0, 1) := dk_42 (dk_at dksX2_routesOf_0 20 rfl rfl)
theorem dX2_routesOf_21 : decode cX2_routesOf 21 = .ok (.iload_n 1, 1) := dk_27 (dk_at dksX2_routesOf_0 21 rfl rfl)
theorem dX2_routesOf_22 : decode cX2_routesOf 22 = .ok (.iload_n 3, 1) := dk_29 (dk_at dksX2_routesOf_0 22 rfl rfl)
theorem dX2_routesOf_23 : decode cX2_routesOf 23 = .ok (.invokevirtual 49, 3) := dk_182 0 49 (dk_at dksX2_routesOf_1 0 rfl rfl)
theorem dX2_routesOf_26 : decode cX2_routesOf 26 = .ok (.iload_n 3, 1) := dk_29 (dk_at dksX2_routesOf_1 3 rfl rfl)
theorem dX2_routesOf_27 : decode cX2_routesOf 27 = .ok (.invokevirtual 45, 3) := dk_182 0 45 (dk_at dksX2_routesOf_1 4 rfl rfl)
theorem dX2_routesOf_30 : decode cX2_routesOf 30 = .ok (.imul, 1) := dk_104 (dk_at dksX2_routesOf_1 7 rfl rfl)
theorem dX2_routesOf_31 : decode cX2_routesOf 31 = .ok (.iadd, 1) := dk_96 (dk_at dksX2_routesOf_1 8 rfl rfl)
theorem dX2_routesOf_32 : decode cX2_routesOf 32 = .ok (.istore_n 2, 1) := dk_61 (dk_at dksX2_routesOf_1 9 rfl rfl)
theorem dX2_routesOf_33 : decode cX2_routesOf 33 = .ok (.iinc 3 1, 3) := dk_132 3 1 (dk_at dksX2_routesOf_1 10 rfl rfl)
theorem dX2_routesOf_36 : decode cX2_routesOf 36 = .ok (.goto (-32), 3) := dk_167 255 224 (dk_at dksX2_routesOf_1 13 rfl rfl)
theorem dX2_routesOf_39 : decode cX2_routesOf 39 = .ok (.iload_n 2, 1) := dk_28 (dk_at dksX2_routesOf_1 16 rfl rfl)
theorem dX2_routesOf_40 : decode cX2_routesOf 40 = .ok (.ireturn, 1) := dk_172 (dk_at dksX2_routesOf_1 17 rfl rfl)
abbrev cX2_pricesOf : ByteArray := prog_9_method_5_code
def yX2_pricesOf : MethodName := ⟨RX2, "pricesOf", "(I)I"⟩
def dkwX2_pricesOf_1 : List UInt8 := [180, 0, 9, 29, 46, 167, 0, 4, 3, 96, 61, 132, 3, 1, 167, 255, 224, 28, 172]
abbrev dktX2_pricesOf_1 : List UInt8 := dkwX2_pricesOf_1 ++ []
def dkwX2_pricesOf_0 : List UInt8 := [3, 61, 3, 62, 29, 42, 180, 0, 35, 162, 0, 30, 28, 27, 29, 184, 0, 41, 153, 0, 12, 42]
abbrev dktX2_pricesOf_0 : List UInt8 := dkwX2_pricesOf_0 ++ dktX2_pricesOf_1
theorem dksX2_pricesOf_0 : cX2_pricesOf.data.toList.drop 0 = dktX2_pricesOf_0 := by decide +kernel
theorem dksX2_pricesOf_1 : cX2_pricesOf.data.toList.drop 22 = dktX2_pricesOf_1 := dk_seg dksX2_pricesOf_0 22 rfl rfl
theorem dX2_pricesOf_0 : decode cX2_pricesOf 0 = .ok (.iconst 0, 1) := dk_3 (dk_at dksX2_pricesOf_0 0 rfl rfl)
theorem dX2_pricesOf_1 : decode cX2_pricesOf 1 = .ok (.istore_n 2, 1) := dk_61 (dk_at dksX2_pricesOf_0 1 rfl rfl)
theorem dX2_pricesOf_2 : decode cX2_pricesOf 2 = .ok (.iconst 0, 1) := dk_3 (dk_at dksX2_pricesOf_0 2 rfl rfl)
theorem dX2_pricesOf_3 : decode cX2_pricesOf 3 = .ok (.istore_n 3, 1) := dk_62 (dk_at dksX2_pricesOf_0 3 rfl rfl)
theorem dX2_pricesOf_4 : decode cX2_pricesOf 4 = .ok (.iload_n 3, 1) := dk_29 (dk_at dksX2_pricesOf_0 4 rfl rfl)
theorem dX2_pricesOf_5 : decode cX2_pricesOf 5 = .ok (.aload_n 0, 1) := dk_42 (dk_at dksX2_pricesOf_0 5 rfl rfl)
theorem dX2_pricesOf_6 : decode cX2_pricesOf 6 = .ok (.getfield 35, 3) := dk_180 0 35 (dk_at dksX2_pricesOf_0 6 rfl rfl)
theorem dX2_pricesOf_9 : decode cX2_pricesOf 9 = .ok (.if_icmp .ge 30, 3) := dk_162 0 30 (dk_at dksX2_pricesOf_0 9 rfl rfl)
theorem dX2_pricesOf_12 : decode cX2_pricesOf 12 = .ok (.iload_n 2, 1) := dk_28 (dk_at dksX2_pricesOf_0 12 rfl rfl)
theorem dX2_pricesOf_13 : decode cX2_pricesOf 13 = .ok (.iload_n 1, 1) := dk_27 (dk_at dksX2_pricesOf_0 13 rfl rfl)
theorem dX2_pricesOf_14 : decode cX2_pricesOf 14 = .ok (.iload_n 3, 1) := dk_29 (dk_at dksX2_pricesOf_0 14 rfl rfl)
theorem dX2_pricesOf_15 : decode cX2_pricesOf 15 = .ok (.invokestatic 41, 3) := dk_184 0 41 (dk_at dksX2_pricesOf_0 15 rfl rfl)
theorem dX2_pricesOf_18 : decode cX2_pricesOf 18 = .ok (.ifCond .eq 12, 3) := dk_153 0 12 (dk_at dksX2_pricesOf_0 18 rfl rfl)
theorem dX2_pricesOf_21 : decode cX2_pricesOf 21 = .ok (.aload_n 0, 1) := dk_42 (dk_at dksX2_pricesOf_0 21 rfl rfl)
theorem dX2_pricesOf_22 : decode cX2_pricesOf 22 = .ok (.getfield 9, 3) := dk_180 0 9 (dk_at dksX2_pricesOf_1 0 rfl rfl)
theorem dX2_pricesOf_25 : decode cX2_pricesOf 25 = .ok (.iload_n 3, 1) := dk_29 (dk_at dksX2_pricesOf_1 3 rfl rfl)
theorem dX2_pricesOf_26 : decode cX2_pricesOf 26 = .ok (.iaload, 1) := dk_46 (dk_at dksX2_pricesOf_1 4 rfl rfl)
theorem dX2_pricesOf_27 : decode cX2_pricesOf 27 = .ok (.goto 4, 3) := dk_167 0 4 (dk_at dksX2_pricesOf_1 5 rfl rfl)
theorem dX2_pricesOf_30 : decode cX2_pricesOf 30 = .ok (.iconst 0, 1) := dk_3 (dk_at dksX2_pricesOf_1 8 rfl rfl)
theorem dX2_pricesOf_31 : decode cX2_pricesOf 31 = .ok (.iadd, 1) := dk_96 (dk_at dksX2_pricesOf_1 9 rfl rfl)
theorem dX2_pricesOf_32 : decode cX2_pricesOf 32 = .ok (.istore_n 2, 1) := dk_61 (dk_at dksX2_pricesOf_1 10 rfl rfl)
theorem dX2_pricesOf_33 : decode cX2_pricesOf 33 = .ok (.iinc 3 1, 3) := dk_132 3 1 (dk_at dksX2_pricesOf_1 11 rfl rfl)
theorem dX2_pricesOf_36 : decode cX2_pricesOf 36 = .ok (.goto (-32), 3) := dk_167 255 224 (dk_at dksX2_pricesOf_1 14 rfl rfl)
theorem dX2_pricesOf_39 : decode cX2_pricesOf 39 = .ok (.iload_n 2, 1) := dk_28 (dk_at dksX2_pricesOf_1 17 rfl rfl)
theorem dX2_pricesOf_40 : decode cX2_pricesOf 40 = .ok (.ireturn, 1) := dk_172 (dk_at dksX2_pricesOf_1 18 rfl rfl)
abbrev cX2_plans : ByteArray := prog_9_method_4_code
def yX2_plans : MethodName := ⟨RX2, "plans", "()I"⟩
def dkwX2_plans_0 : List UInt8 := [4, 42, 180, 0, 35, 120, 172]
abbrev dktX2_plans_0 : List UInt8 := dkwX2_plans_0 ++ []
theorem dksX2_plans_0 : cX2_plans.data.toList.drop 0 = dktX2_plans_0 := by decide +kernel
theorem dX2_plans_0 : decode cX2_plans 0 = .ok (.iconst 1, 1) := dk_4 (dk_at dksX2_plans_0 0 rfl rfl)
theorem dX2_plans_1 : decode cX2_plans 1 = .ok (.aload_n 0, 1) := dk_42 (dk_at dksX2_plans_0 1 rfl rfl)
theorem dX2_plans_2 : decode cX2_plans 2 = .ok (.getfield 35, 3) := dk_180 0 35 (dk_at dksX2_plans_0 2 rfl rfl)
theorem dX2_plans_5 : decode cX2_plans 5 = .ok (.ishl, 1) := dk_120 (dk_at dksX2_plans_0 5 rfl rfl)
theorem dX2_plans_6 : decode cX2_plans 6 = .ok (.ireturn, 1) := dk_172 (dk_at dksX2_plans_0 6 rfl rfl)
abbrev cX2_cost : ByteArray := prog_9_method_9_code
def yX2_cost : MethodName := ⟨RX2, "cost", "(I)I"⟩
def dkwX2_cost_0 : List UInt8 := [42, 27, 182, 0, 52, 42, 27, 182, 0, 56, 96, 172]
abbrev dktX2_cost_0 : List UInt8 := dkwX2_cost_0 ++ []
theorem dksX2_cost_0 : cX2_cost.data.toList.drop 0 = dktX2_cost_0 := by decide +kernel
theorem dX2_cost_0 : decode cX2_cost 0 = .ok (.aload_n 0, 1) := dk_42 (dk_at dksX2_cost_0 0 rfl rfl)
theorem dX2_cost_1 : decode cX2_cost 1 = .ok (.iload_n 1, 1) := dk_27 (dk_at dksX2_cost_0 1 rfl rfl)
theorem dX2_cost_2 : decode cX2_cost 2 = .ok (.invokevirtual 52, 3) := dk_182 0 52 (dk_at dksX2_cost_0 2 rfl rfl)
theorem dX2_cost_5 : decode cX2_cost 5 = .ok (.aload_n 0, 1) := dk_42 (dk_at dksX2_cost_0 5 rfl rfl)
theorem dX2_cost_6 : decode cX2_cost 6 = .ok (.iload_n 1, 1) := dk_27 (dk_at dksX2_cost_0 6 rfl rfl)
theorem dX2_cost_7 : decode cX2_cost 7 = .ok (.invokevirtual 56, 3) := dk_182 0 56 (dk_at dksX2_cost_0 7 rfl rfl)
theorem dX2_cost_10 : decode cX2_cost 10 = .ok (.iadd, 1) := dk_96 (dk_at dksX2_cost_0 10 rfl rfl)
theorem dX2_cost_11 : decode cX2_cost 11 = .ok (.ireturn, 1) := dk_172 (dk_at dksX2_cost_0 11 rfl rfl)
abbrev cX2_against : ByteArray := prog_9_method_10_code
def yX2_against : MethodName := ⟨RX2, "against", "(I)LSiteCuts$Against;"⟩
def dkwX2_against_2 : List UInt8 := [178, 0, 75, 176]
abbrev dktX2_against_2 : List UInt8 := dkwX2_against_2 ++ []
def dkwX2_against_1 : List UInt8 := [153, 0, 7, 178, 0, 69, 176, 178, 0, 72, 42, 27, 182, 0, 65, 153, 0, 9, 178, 0, 72, 167, 0, 6]
abbrev dktX2_against_1 : List UInt8 := dkwX2_against_1 ++ dktX2_against_2
def dkwX2_against_0 : List UInt8 := [178, 0, 59, 42, 27, 182, 0, 65, 153, 0, 7, 178, 0, 59, 176, 178, 0, 69, 42, 27, 182, 0, 65]
abbrev dktX2_against_0 : List UInt8 := dkwX2_against_0 ++ dktX2_against_1
theorem dksX2_against_0 : cX2_against.data.toList.drop 0 = dktX2_against_0 := by decide +kernel
theorem dksX2_against_1 : cX2_against.data.toList.drop 23 = dktX2_against_1 := dk_seg dksX2_against_0 23 rfl rfl
theorem dksX2_against_2 : cX2_against.data.toList.drop 47 = dktX2_against_2 := dk_seg dksX2_against_1 24 rfl rfl
theorem dX2_against_0 : decode cX2_against 0 = .ok (.getstatic 59, 3) := dk_178 0 59 (dk_at dksX2_against_0 0 rfl rfl)
theorem dX2_against_3 : decode cX2_against 3 = .ok (.aload_n 0, 1) := dk_42 (dk_at dksX2_against_0 3 rfl rfl)
theorem dX2_against_4 : decode cX2_against 4 = .ok (.iload_n 1, 1) := dk_27 (dk_at dksX2_against_0 4 rfl rfl)
theorem dX2_against_5 : decode cX2_against 5 = .ok (.invokevirtual 65, 3) := dk_182 0 65 (dk_at dksX2_against_0 5 rfl rfl)
theorem dX2_against_8 : decode cX2_against 8 = .ok (.ifCond .eq 7, 3) := dk_153 0 7 (dk_at dksX2_against_0 8 rfl rfl)
theorem dX2_against_11 : decode cX2_against 11 = .ok (.getstatic 59, 3) := dk_178 0 59 (dk_at dksX2_against_0 11 rfl rfl)
theorem dX2_against_14 : decode cX2_against 14 = .ok (.areturn, 1) := dk_176 (dk_at dksX2_against_0 14 rfl rfl)
theorem dX2_against_15 : decode cX2_against 15 = .ok (.getstatic 69, 3) := dk_178 0 69 (dk_at dksX2_against_0 15 rfl rfl)
theorem dX2_against_18 : decode cX2_against 18 = .ok (.aload_n 0, 1) := dk_42 (dk_at dksX2_against_0 18 rfl rfl)
theorem dX2_against_19 : decode cX2_against 19 = .ok (.iload_n 1, 1) := dk_27 (dk_at dksX2_against_0 19 rfl rfl)
theorem dX2_against_20 : decode cX2_against 20 = .ok (.invokevirtual 65, 3) := dk_182 0 65 (dk_at dksX2_against_0 20 rfl rfl)
theorem dX2_against_23 : decode cX2_against 23 = .ok (.ifCond .eq 7, 3) := dk_153 0 7 (dk_at dksX2_against_1 0 rfl rfl)
theorem dX2_against_26 : decode cX2_against 26 = .ok (.getstatic 69, 3) := dk_178 0 69 (dk_at dksX2_against_1 3 rfl rfl)
theorem dX2_against_29 : decode cX2_against 29 = .ok (.areturn, 1) := dk_176 (dk_at dksX2_against_1 6 rfl rfl)
theorem dX2_against_30 : decode cX2_against 30 = .ok (.getstatic 72, 3) := dk_178 0 72 (dk_at dksX2_against_1 7 rfl rfl)
theorem dX2_against_33 : decode cX2_against 33 = .ok (.aload_n 0, 1) := dk_42 (dk_at dksX2_against_1 10 rfl rfl)
theorem dX2_against_34 : decode cX2_against 34 = .ok (.iload_n 1, 1) := dk_27 (dk_at dksX2_against_1 11 rfl rfl)
theorem dX2_against_35 : decode cX2_against 35 = .ok (.invokevirtual 65, 3) := dk_182 0 65 (dk_at dksX2_against_1 12 rfl rfl)
theorem dX2_against_38 : decode cX2_against 38 = .ok (.ifCond .eq 9, 3) := dk_153 0 9 (dk_at dksX2_against_1 15 rfl rfl)
theorem dX2_against_41 : decode cX2_against 41 = .ok (.getstatic 72, 3) := dk_178 0 72 (dk_at dksX2_against_1 18 rfl rfl)
theorem dX2_against_44 : decode cX2_against 44 = .ok (.goto 6, 3) := dk_167 0 6 (dk_at dksX2_against_1 21 rfl rfl)
theorem dX2_against_47 : decode cX2_against 47 = .ok (.getstatic 75, 3) := dk_178 0 75 (dk_at dksX2_against_2 0 rfl rfl)
theorem dX2_against_50 : decode cX2_against 50 = .ok (.areturn, 1) := dk_176 (dk_at dksX2_against_2 3 rfl rfl)
abbrev cX2_isFeasible : ByteArray := prog_9_method_12_code
def yX2_isFeasible : MethodName := ⟨RX2, "isFeasible", "(I)Z"⟩
def dkwX2_isFeasible_0 : List UInt8 := [42, 27, 182, 0, 78, 178, 0, 75, 166, 0, 7, 4, 167, 0, 4, 3, 172]
abbrev dktX2_isFeasible_0 : List UInt8 := dkwX2_isFeasible_0 ++ []
theorem dksX2_isFeasible_0 : cX2_isFeasible.data.toList.drop 0 = dktX2_isFeasible_0 := by decide +kernel
theorem dX2_isFeasible_0 : decode cX2_isFeasible 0 = .ok (.aload_n 0, 1) := dk_42 (dk_at dksX2_isFeasible_0 0 rfl rfl)
theorem dX2_isFeasible_1 : decode cX2_isFeasible 1 = .ok (.iload_n 1, 1) := dk_27 (dk_at dksX2_isFeasible_0 1 rfl rfl)
theorem dX2_isFeasible_2 : decode cX2_isFeasible 2 = .ok (.invokevirtual 78, 3) := dk_182 0 78 (dk_at dksX2_isFeasible_0 2 rfl rfl)
theorem dX2_isFeasible_5 : decode cX2_isFeasible 5 = .ok (.getstatic 75, 3) := dk_178 0 75 (dk_at dksX2_isFeasible_0 5 rfl rfl)
theorem dX2_isFeasible_8 : decode cX2_isFeasible 8 = .ok (.if_acmp .ne 7, 3) := dk_166 0 7 (dk_at dksX2_isFeasible_0 8 rfl rfl)
theorem dX2_isFeasible_11 : decode cX2_isFeasible 11 = .ok (.iconst 1, 1) := dk_4 (dk_at dksX2_isFeasible_0 11 rfl rfl)
theorem dX2_isFeasible_12 : decode cX2_isFeasible 12 = .ok (.goto 4, 3) := dk_167 0 4 (dk_at dksX2_isFeasible_0 12 rfl rfl)
theorem dX2_isFeasible_15 : decode cX2_isFeasible 15 = .ok (.iconst 0, 1) := dk_3 (dk_at dksX2_isFeasible_0 15 rfl rfl)
theorem dX2_isFeasible_16 : decode cX2_isFeasible 16 = .ok (.ireturn, 1) := dk_172 (dk_at dksX2_isFeasible_0 16 rfl rfl)
abbrev cX2_count : ByteArray := prog_9_method_13_code
def yX2_count : MethodName := ⟨RX2, "count", "(LSiteCuts$Judge;)I"⟩
def dkwX2_count_1 : List UInt8 := [167, 0, 4, 3, 96, 61, 132, 3, 1, 167, 255, 227, 28, 172]
abbrev dktX2_count_1 : List UInt8 := dkwX2_count_1 ++ []
def dkwX2_count_0 : List UInt8 := [3, 61, 3, 62, 29, 42, 182, 0, 82, 162, 0, 27, 28, 43, 29, 185, 0, 86, 2, 0, 153, 0, 7, 4]
abbrev dktX2_count_0 : List UInt8 := dkwX2_count_0 ++ dktX2_count_1
theorem dksX2_count_0 : cX2_count.data.toList.drop 0 = dktX2_count_0 := by decide +kernel
theorem dksX2_count_1 : cX2_count.data.toList.drop 24 = dktX2_count_1 := dk_seg dksX2_count_0 24 rfl rfl
theorem dX2_count_0 : decode cX2_count 0 = .ok (.iconst 0, 1) := dk_3 (dk_at dksX2_count_0 0 rfl rfl)
theorem dX2_count_1 : decode cX2_count 1 = .ok (.istore_n 2, 1) := dk_61 (dk_at dksX2_count_0 1 rfl rfl)
theorem dX2_count_2 : decode cX2_count 2 = .ok (.iconst 0, 1) := dk_3 (dk_at dksX2_count_0 2 rfl rfl)
theorem dX2_count_3 : decode cX2_count 3 = .ok (.istore_n 3, 1) := dk_62 (dk_at dksX2_count_0 3 rfl rfl)
theorem dX2_count_4 : decode cX2_count 4 = .ok (.iload_n 3, 1) := dk_29 (dk_at dksX2_count_0 4 rfl rfl)
theorem dX2_count_5 : decode cX2_count 5 = .ok (.aload_n 0, 1) := dk_42 (dk_at dksX2_count_0 5 rfl rfl)
theorem dX2_count_6 : decode cX2_count 6 = .ok (.invokevirtual 82, 3) := dk_182 0 82 (dk_at dksX2_count_0 6 rfl rfl)
theorem dX2_count_9 : decode cX2_count 9 = .ok (.if_icmp .ge 27, 3) := dk_162 0 27 (dk_at dksX2_count_0 9 rfl rfl)
theorem dX2_count_12 : decode cX2_count 12 = .ok (.iload_n 2, 1) := dk_28 (dk_at dksX2_count_0 12 rfl rfl)
theorem dX2_count_13 : decode cX2_count 13 = .ok (.aload_n 1, 1) := dk_43 (dk_at dksX2_count_0 13 rfl rfl)
theorem dX2_count_14 : decode cX2_count 14 = .ok (.iload_n 3, 1) := dk_29 (dk_at dksX2_count_0 14 rfl rfl)
theorem dX2_count_15 : decode cX2_count 15 = .ok (.invokeinterface 86 2, 5) := by decide +kernel
theorem dX2_count_20 : decode cX2_count 20 = .ok (.ifCond .eq 7, 3) := dk_153 0 7 (dk_at dksX2_count_0 20 rfl rfl)
theorem dX2_count_23 : decode cX2_count 23 = .ok (.iconst 1, 1) := dk_4 (dk_at dksX2_count_0 23 rfl rfl)
theorem dX2_count_24 : decode cX2_count 24 = .ok (.goto 4, 3) := dk_167 0 4 (dk_at dksX2_count_1 0 rfl rfl)
theorem dX2_count_27 : decode cX2_count 27 = .ok (.iconst 0, 1) := dk_3 (dk_at dksX2_count_1 3 rfl rfl)
theorem dX2_count_28 : decode cX2_count 28 = .ok (.iadd, 1) := dk_96 (dk_at dksX2_count_1 4 rfl rfl)
theorem dX2_count_29 : decode cX2_count 29 = .ok (.istore_n 2, 1) := dk_61 (dk_at dksX2_count_1 5 rfl rfl)
theorem dX2_count_30 : decode cX2_count 30 = .ok (.iinc 3 1, 3) := dk_132 3 1 (dk_at dksX2_count_1 6 rfl rfl)
theorem dX2_count_33 : decode cX2_count 33 = .ok (.goto (-29), 3) := dk_167 255 227 (dk_at dksX2_count_1 9 rfl rfl)
theorem dX2_count_36 : decode cX2_count 36 = .ok (.iload_n 2, 1) := dk_28 (dk_at dksX2_count_1 12 rfl rfl)
theorem dX2_count_37 : decode cX2_count 37 = .ok (.ireturn, 1) := dk_172 (dk_at dksX2_count_1 13 rfl rfl)
theorem q61 : (Jvm.Cond.initialized "SiteCuts$Land") ∈ lw_all := lw_g (lw_at lw_m1 3 rfl) rfl
theorem q103 : (Jvm.Cond.instantiable "SiteCuts$Land" (7 : Nat)) ∈ lw_all := lw_g (lw_at lw_m1 45 rfl) rfl
theorem q105 : (Jvm.Cond.instanceMethod ({ cls := "SiteCuts$Land", name := "<init>", desc := "()V" } : Jvm.MethodName)) ∈ lw_all := lw_g (lw_at lw_m1 47 rfl) rfl
theorem q106 : (Jvm.Cond.code ({ cls := "SiteCuts$Land", name := "<init>", desc := "()V" } : Jvm.MethodName) prog_9_method_1_code (2 : Nat) (Option.none : Option Jvm.ClassFile.FieldType)) ∈ lw_all := lw_g (lw_at lw_m1 48 rfl) rfl
theorem q107 : (Jvm.Cond.methodLink "SiteCuts$Land" (3 : Nat) ({ cls := "java/lang/Object", name := "<init>", desc := "()V" } : Jvm.MethodName)) ∈ lw_all := lw_g (lw_at lw_m1 49 rfl) rfl
theorem q108 : (Jvm.Cond.fieldLink "SiteCuts$Land" (9 : Nat) "SiteCuts$Land" "prices" "[I") ∈ lw_all := lw_g (lw_at lw_m1 50 rfl) rfl
theorem q110 : (Jvm.Cond.fieldLink "SiteCuts$Land" (15 : Nat) "SiteCuts$Land" "excluded" "[I") ∈ lw_all := lw_g (lw_at lw_m1 52 rfl) rfl
theorem q113 : (Jvm.Cond.fieldLink "SiteCuts$Land" (18 : Nat) "SiteCuts$Land" "demands" "[I") ∈ lw_all := lw_g (lw_at lw_m1 55 rfl) rfl
theorem q116 : (Jvm.Cond.fieldLink "SiteCuts$Land" (21 : Nat) "SiteCuts$Land" "routes" "[I") ∈ lw_all := lw_g (lw_at lw_m1 58 rfl) rfl
theorem q119 : (Jvm.Cond.fieldLink "SiteCuts$Land" (35 : Nat) "SiteCuts$Land" "sites" "I") ∈ lw_all := lw_g (lw_at lw_m1 61 rfl) rfl
theorem q123 : (Jvm.Cond.fieldLink "SiteCuts$Land" (38 : Nat) "SiteCuts$Land" "customers" "I") ∈ lw_all := lw_g (lw_at lw_m1 65 rfl) rfl
theorem q126 : (Jvm.Cond.fieldLink "SiteCuts$Land" (24 : Nat) "SiteCuts$Land" "most" "I") ∈ lw_all := lw_g (lw_at lw_m1 68 rfl) rfl
theorem q129 : (Jvm.Cond.laysFinal "SiteCuts$Land" "SiteCuts$Land" "prices" "[I") ∈ lw_all := lw_g (lw_at lw_m1 71 rfl) rfl
theorem q130 : (Jvm.Cond.soleField "SiteCuts$Land" "prices") ∈ lw_all := lw_g (lw_at lw_m1 72 rfl) rfl
theorem q131 : (Jvm.Cond.laysFinal "SiteCuts$Land" "SiteCuts$Land" "excluded" "[I") ∈ lw_all := lw_g (lw_at lw_m1 73 rfl) rfl
theorem q132 : (Jvm.Cond.soleField "SiteCuts$Land" "excluded") ∈ lw_all := lw_g (lw_at lw_m1 74 rfl) rfl
theorem q133 : (Jvm.Cond.laysFinal "SiteCuts$Land" "SiteCuts$Land" "demands" "[I") ∈ lw_all := lw_g (lw_at lw_m1 75 rfl) rfl
theorem q134 : (Jvm.Cond.soleField "SiteCuts$Land" "demands") ∈ lw_all := lw_g (lw_at lw_m1 76 rfl) rfl
theorem q135 : (Jvm.Cond.laysFinal "SiteCuts$Land" "SiteCuts$Land" "routes" "[I") ∈ lw_all := lw_g (lw_at lw_m1 77 rfl) rfl
theorem q136 : (Jvm.Cond.soleField "SiteCuts$Land" "routes") ∈ lw_all := lw_g (lw_at lw_m1 78 rfl) rfl
theorem q137 : (Jvm.Cond.lays "SiteCuts$Land" "SiteCuts$Land" "sites" "I") ∈ lw_all := lw_g (lw_at lw_m1 79 rfl) rfl
theorem q138 : (Jvm.Cond.soleField "SiteCuts$Land" "sites") ∈ lw_all := lw_g (lw_at lw_m1 80 rfl) rfl
theorem q139 : (Jvm.Cond.lays "SiteCuts$Land" "SiteCuts$Land" "customers" "I") ∈ lw_all := lw_g (lw_at lw_m1 81 rfl) rfl
theorem q140 : (Jvm.Cond.soleField "SiteCuts$Land" "customers") ∈ lw_all := lw_g (lw_at lw_m1 82 rfl) rfl
theorem q141 : (Jvm.Cond.lays "SiteCuts$Land" "SiteCuts$Land" "most" "I") ∈ lw_all := lw_g (lw_at lw_m1 83 rfl) rfl
theorem q142 : (Jvm.Cond.soleField "SiteCuts$Land" "most") ∈ lw_all := lw_g (lw_at lw_m1 84 rfl) rfl
theorem q143 : (Jvm.Cond.superclass "SiteCuts$Land" "java/lang/Object") ∈ lw_all := lw_g (lw_at lw_m1 85 rfl) rfl
theorem q253 : (Jvm.Cond.instanceMethod ({ cls := "SiteCuts$Land", name := "copy", desc := "()LSiteCuts$Land;" } : Jvm.MethodName)) ∈ lw_all := lw_g (lw_at lw_m1 195 rfl) rfl
theorem q254 : (Jvm.Cond.selects "SiteCuts$Land" ({ cls := "SiteCuts$Land", name := "copy", desc := "()LSiteCuts$Land;" } : Jvm.MethodName) ({ cls := "SiteCuts$Land", name := "copy", desc := "()LSiteCuts$Land;" } : Jvm.MethodName)) ∈ lw_all := lw_g (lw_at lw_m1 196 rfl) rfl
theorem q255 : (Jvm.Cond.code ({ cls := "SiteCuts$Land", name := "copy", desc := "()LSiteCuts$Land;" } : Jvm.MethodName) prog_9_method_2_code (2 : Nat) (Option.some (Jvm.ClassFile.FieldType.object "SiteCuts$Land"))) ∈ lw_all := lw_g (lw_at lw_m1 197 rfl) rfl
theorem q256 : (Jvm.Cond.classLink "SiteCuts$Land" (10 : Nat) "SiteCuts$Land") ∈ lw_all := lw_g (lw_at lw_m1 198 rfl) rfl
theorem q257 : (Jvm.Cond.methodLink "SiteCuts$Land" (28 : Nat) ({ cls := "SiteCuts$Land", name := "<init>", desc := "()V" } : Jvm.MethodName)) ∈ lw_all := lw_g (lw_at lw_m1 199 rfl) rfl
theorem q258 : (Jvm.Cond.methodLink "SiteCuts$Land" (29 : Nat) ({ cls := "java/lang/System", name := "arraycopy", desc := "(Ljava/lang/Object;ILjava/lang/Object;II)V" } : Jvm.MethodName)) ∈ lw_all := lw_g (lw_at lw_m1 200 rfl) rfl
theorem q292 : (Jvm.Cond.selects "SiteCuts$Land" ({ cls := "java/lang/Object", name := "getClass", desc := "()Ljava/lang/Class;" } : Jvm.MethodName) ({ cls := "java/lang/Object", name := "getClass", desc := "()Ljava/lang/Class;" } : Jvm.MethodName)) ∈ lw_all := lw_g (lw_at lw_m1 234 rfl) rfl
theorem q417 : (Jvm.Cond.instanceMethod ({ cls := "SiteCuts$Land", name := "route", desc := "(II)I" } : Jvm.MethodName)) ∈ lw_all := lw_g (lw_at lw_m2 119 rfl) rfl
theorem q418 : (Jvm.Cond.selects "SiteCuts$Land" ({ cls := "SiteCuts$Land", name := "route", desc := "(II)I" } : Jvm.MethodName) ({ cls := "SiteCuts$Land", name := "route", desc := "(II)I" } : Jvm.MethodName)) ∈ lw_all := lw_g (lw_at lw_m2 120 rfl) rfl
theorem q419 : (Jvm.Cond.code ({ cls := "SiteCuts$Land", name := "route", desc := "(II)I" } : Jvm.MethodName) prog_9_method_3_code (3 : Nat) (Option.some Jvm.ClassFile.FieldType.int)) ∈ lw_all := lw_g (lw_at lw_m2 121 rfl) rfl
theorem q453 : (Jvm.Cond.instanceMethod ({ cls := "SiteCuts$Land", name := "isAllowed", desc := "(I)Z" } : Jvm.MethodName)) ∈ lw_all := lw_g (lw_at lw_m2 155 rfl) rfl
theorem q454 : (Jvm.Cond.selects "SiteCuts$Land" ({ cls := "SiteCuts$Land", name := "isAllowed", desc := "(I)Z" } : Jvm.MethodName) ({ cls := "SiteCuts$Land", name := "isAllowed", desc := "(I)Z" } : Jvm.MethodName)) ∈ lw_all := lw_g (lw_at lw_m2 156 rfl) rfl
theorem q455 : (Jvm.Cond.code ({ cls := "SiteCuts$Land", name := "isAllowed", desc := "(I)Z" } : Jvm.MethodName) prog_9_method_11_code (2 : Nat) (Option.some Jvm.ClassFile.FieldType.boolean)) ∈ lw_all := lw_g (lw_at lw_m2 157 rfl) rfl
theorem q456 : (Jvm.Cond.fieldLink "SiteCuts$Land" (59 : Nat) "SiteCuts$Against" "TOO_MANY" "LSiteCuts$Against;") ∈ lw_all := lw_g (lw_at lw_m2 158 rfl) rfl
theorem q458 : (Jvm.Cond.methodLink "SiteCuts$Land" (65 : Nat) ({ cls := "SiteCuts$Against", name := "is", desc := "(LSiteCuts$Land;I)Z" } : Jvm.MethodName)) ∈ lw_all := lw_g (lw_at lw_m2 160 rfl) rfl
theorem q476 : (Jvm.Cond.instanceMethod ({ cls := "SiteCuts$Land", name := "lost", desc := "(I)I" } : Jvm.MethodName)) ∈ lw_all := lw_g (lw_at lw_m2 178 rfl) rfl
theorem q477 : (Jvm.Cond.selects "SiteCuts$Land" ({ cls := "SiteCuts$Land", name := "lost", desc := "(I)I" } : Jvm.MethodName) ({ cls := "SiteCuts$Land", name := "lost", desc := "(I)I" } : Jvm.MethodName)) ∈ lw_all := lw_g (lw_at lw_m2 179 rfl) rfl
theorem q478 : (Jvm.Cond.code ({ cls := "SiteCuts$Land", name := "lost", desc := "(I)I" } : Jvm.MethodName) prog_9_method_7_code (3 : Nat) (Option.some Jvm.ClassFile.FieldType.int)) ∈ lw_all := lw_g (lw_at lw_m2 180 rfl) rfl
theorem q479 : (Jvm.Cond.methodLink "SiteCuts$Land" (49 : Nat) ({ cls := "SiteCuts$Land", name := "server", desc := "(II)I" } : Jvm.MethodName)) ∈ lw_all := lw_g (lw_at lw_m2 181 rfl) rfl
theorem q480 : (Jvm.Cond.instanceMethod ({ cls := "SiteCuts$Land", name := "server", desc := "(II)I" } : Jvm.MethodName)) ∈ lw_all := lw_g (lw_at lw_m2 182 rfl) rfl
theorem q481 : (Jvm.Cond.selects "SiteCuts$Land" ({ cls := "SiteCuts$Land", name := "server", desc := "(II)I" } : Jvm.MethodName) ({ cls := "SiteCuts$Land", name := "server", desc := "(II)I" } : Jvm.MethodName)) ∈ lw_all := lw_g (lw_at lw_m2 183 rfl) rfl
theorem q482 : (Jvm.Cond.code ({ cls := "SiteCuts$Land", name := "server", desc := "(II)I" } : Jvm.MethodName) prog_9_method_6_code (5 : Nat) (Option.some Jvm.ClassFile.FieldType.int)) ∈ lw_all := lw_g (lw_at lw_m2 184 rfl) rfl
theorem q483 : (Jvm.Cond.methodLinkNest "SiteCuts$Land" (41 : Nat) ({ cls := "SiteCuts", name := "has", desc := "(II)Z" } : Jvm.MethodName) "SiteCuts") ∈ lw_tbl := lw_at lw_m2 185 rfl
theorem q484 : (Jvm.Cond.methodLink "SiteCuts$Land" (45 : Nat) ({ cls := "SiteCuts$Land", name := "route", desc := "(II)I" } : Jvm.MethodName)) ∈ lw_all := lw_g (lw_at lw_m2 186 rfl) rfl
theorem q485 : (Jvm.Cond.fieldLink "SiteCuts$Land" (69 : Nat) "SiteCuts$Against" "EXCLUDED" "LSiteCuts$Against;") ∈ lw_all := lw_g (lw_at lw_m2 187 rfl) rfl
theorem q561 : (Jvm.Cond.instanceMethod ({ cls := "SiteCuts$Land", name := "routesOf", desc := "(I)I" } : Jvm.MethodName)) ∈ lw_all := lw_g (lw_at lw_m3 23 rfl) rfl
theorem q562 : (Jvm.Cond.selects "SiteCuts$Land" ({ cls := "SiteCuts$Land", name := "routesOf", desc := "(I)I" } : Jvm.MethodName) ({ cls := "SiteCuts$Land", name := "routesOf", desc := "(I)I" } : Jvm.MethodName)) ∈ lw_all := lw_g (lw_at lw_m3 24 rfl) rfl
theorem q563 : (Jvm.Cond.code ({ cls := "SiteCuts$Land", name := "routesOf", desc := "(I)I" } : Jvm.MethodName) prog_9_method_8_code (4 : Nat) (Option.some Jvm.ClassFile.FieldType.int)) ∈ lw_all := lw_g (lw_at lw_m3 25 rfl) rfl
theorem q576 : (Jvm.Cond.instanceMethod ({ cls := "SiteCuts$Land", name := "pricesOf", desc := "(I)I" } : Jvm.MethodName)) ∈ lw_all := lw_g (lw_at lw_m3 38 rfl) rfl
theorem q577 : (Jvm.Cond.selects "SiteCuts$Land" ({ cls := "SiteCuts$Land", name := "pricesOf", desc := "(I)I" } : Jvm.MethodName) ({ cls := "SiteCuts$Land", name := "pricesOf", desc := "(I)I" } : Jvm.MethodName)) ∈ lw_all := lw_g (lw_at lw_m3 39 rfl) rfl
theorem q578 : (Jvm.Cond.code ({ cls := "SiteCuts$Land", name := "pricesOf", desc := "(I)I" } : Jvm.MethodName) prog_9_method_5_code (4 : Nat) (Option.some Jvm.ClassFile.FieldType.int)) ∈ lw_all := lw_g (lw_at lw_m3 40 rfl) rfl
theorem q590 : (Jvm.Cond.instanceMethod ({ cls := "SiteCuts$Land", name := "plans", desc := "()I" } : Jvm.MethodName)) ∈ lw_all := lw_g (lw_at lw_m3 52 rfl) rfl
theorem q591 : (Jvm.Cond.selects "SiteCuts$Land" ({ cls := "SiteCuts$Land", name := "plans", desc := "()I" } : Jvm.MethodName) ({ cls := "SiteCuts$Land", name := "plans", desc := "()I" } : Jvm.MethodName)) ∈ lw_all := lw_g (lw_at lw_m3 53 rfl) rfl
theorem q592 : (Jvm.Cond.code ({ cls := "SiteCuts$Land", name := "plans", desc := "()I" } : Jvm.MethodName) prog_9_method_4_code (1 : Nat) (Option.some Jvm.ClassFile.FieldType.int)) ∈ lw_all := lw_g (lw_at lw_m3 54 rfl) rfl
theorem q603 : (Jvm.Cond.instanceMethod ({ cls := "SiteCuts$Land", name := "cost", desc := "(I)I" } : Jvm.MethodName)) ∈ lw_all := lw_g (lw_at lw_m3 65 rfl) rfl
theorem q604 : (Jvm.Cond.selects "SiteCuts$Land" ({ cls := "SiteCuts$Land", name := "cost", desc := "(I)I" } : Jvm.MethodName) ({ cls := "SiteCuts$Land", name := "cost", desc := "(I)I" } : Jvm.MethodName)) ∈ lw_all := lw_g (lw_at lw_m3 66 rfl) rfl
theorem q605 : (Jvm.Cond.code ({ cls := "SiteCuts$Land", name := "cost", desc := "(I)I" } : Jvm.MethodName) prog_9_method_9_code (2 : Nat) (Option.some Jvm.ClassFile.FieldType.int)) ∈ lw_all := lw_g (lw_at lw_m3 67 rfl) rfl
theorem q606 : (Jvm.Cond.methodLink "SiteCuts$Land" (52 : Nat) ({ cls := "SiteCuts$Land", name := "pricesOf", desc := "(I)I" } : Jvm.MethodName)) ∈ lw_all := lw_g (lw_at lw_m3 68 rfl) rfl
theorem q607 : (Jvm.Cond.methodLink "SiteCuts$Land" (56 : Nat) ({ cls := "SiteCuts$Land", name := "routesOf", desc := "(I)I" } : Jvm.MethodName)) ∈ lw_all := lw_g (lw_at lw_m3 69 rfl) rfl
theorem q937 : (Jvm.Cond.instanceMethod ({ cls := "SiteCuts$Land", name := "against", desc := "(I)LSiteCuts$Against;" } : Jvm.MethodName)) ∈ lw_all := lw_g (lw_at lw_m4 159 rfl) rfl
theorem q938 : (Jvm.Cond.selects "SiteCuts$Land" ({ cls := "SiteCuts$Land", name := "against", desc := "(I)LSiteCuts$Against;" } : Jvm.MethodName) ({ cls := "SiteCuts$Land", name := "against", desc := "(I)LSiteCuts$Against;" } : Jvm.MethodName)) ∈ lw_all := lw_g (lw_at lw_m4 160 rfl) rfl
theorem q939 : (Jvm.Cond.code ({ cls := "SiteCuts$Land", name := "against", desc := "(I)LSiteCuts$Against;" } : Jvm.MethodName) prog_9_method_10_code (2 : Nat) (Option.some (Jvm.ClassFile.FieldType.object "SiteCuts$Against"))) ∈ lw_all := lw_g (lw_at lw_m4 161 rfl) rfl
theorem q940 : (Jvm.Cond.fieldLink "SiteCuts$Land" (72 : Nat) "SiteCuts$Against" "LOST" "LSiteCuts$Against;") ∈ lw_all := lw_g (lw_at lw_m4 162 rfl) rfl
theorem q942 : (Jvm.Cond.fieldLink "SiteCuts$Land" (75 : Nat) "SiteCuts$Against" "NOTHING" "LSiteCuts$Against;") ∈ lw_all := lw_g (lw_at lw_m4 164 rfl) rfl
theorem q996 : (Jvm.Cond.instanceMethod ({ cls := "SiteCuts$Land", name := "isFeasible", desc := "(I)Z" } : Jvm.MethodName)) ∈ lw_all := lw_g (lw_at lw_m4 218 rfl) rfl
theorem q997 : (Jvm.Cond.selects "SiteCuts$Land" ({ cls := "SiteCuts$Land", name := "isFeasible", desc := "(I)Z" } : Jvm.MethodName) ({ cls := "SiteCuts$Land", name := "isFeasible", desc := "(I)Z" } : Jvm.MethodName)) ∈ lw_all := lw_g (lw_at lw_m4 219 rfl) rfl
theorem q998 : (Jvm.Cond.code ({ cls := "SiteCuts$Land", name := "isFeasible", desc := "(I)Z" } : Jvm.MethodName) prog_9_method_12_code (2 : Nat) (Option.some Jvm.ClassFile.FieldType.boolean)) ∈ lw_all := lw_g (lw_at lw_m4 220 rfl) rfl
theorem q999 : (Jvm.Cond.methodLink "SiteCuts$Land" (78 : Nat) ({ cls := "SiteCuts$Land", name := "against", desc := "(I)LSiteCuts$Against;" } : Jvm.MethodName)) ∈ lw_all := lw_g (lw_at lw_m4 221 rfl) rfl
theorem q1002 : (Jvm.Cond.instanceMethod ({ cls := "SiteCuts$Land", name := "count", desc := "(LSiteCuts$Judge;)I" } : Jvm.MethodName)) ∈ lw_all := lw_g (lw_at lw_m4 224 rfl) rfl
theorem q1003 : (Jvm.Cond.selects "SiteCuts$Land" ({ cls := "SiteCuts$Land", name := "count", desc := "(LSiteCuts$Judge;)I" } : Jvm.MethodName) ({ cls := "SiteCuts$Land", name := "count", desc := "(LSiteCuts$Judge;)I" } : Jvm.MethodName)) ∈ lw_all := lw_g (lw_at lw_m4 225 rfl) rfl
theorem q1004 : (Jvm.Cond.code ({ cls := "SiteCuts$Land", name := "count", desc := "(LSiteCuts$Judge;)I" } : Jvm.MethodName) prog_9_method_13_code (4 : Nat) (Option.some Jvm.ClassFile.FieldType.int)) ∈ lw_all := lw_g (lw_at lw_m4 226 rfl) rfl
theorem q1005 : (Jvm.Cond.methodLink "SiteCuts$Land" (82 : Nat) ({ cls := "SiteCuts$Land", name := "plans", desc := "()I" } : Jvm.MethodName)) ∈ lw_all := lw_g (lw_at lw_m4 227 rfl) rfl
theorem q1006 : (Jvm.Cond.interfaceEntry "SiteCuts$Land" (86 : Nat)) ∈ lw_tbl := lw_at lw_m4 228 rfl
theorem q1007 : (Jvm.Cond.methodLink "SiteCuts$Land" (86 : Nat) ({ cls := "SiteCuts$Judge", name := "allows", desc := "(I)Z" } : Jvm.MethodName)) ∈ lw_all := lw_g (lw_at lw_m4 229 rfl) rfl
theorem q1386 : (Jvm.Cond.castable "SiteCuts$Land" "java/lang/Object") ∈ lw_tbl := lw_at lw_m6 128 rfl
theorem in_X2 : ∀ w ∈ wsX20, w ∈ lw_all := lw_in wsX20 [129, 131, 133, 135, 137, 139, 141] (by decide +kernel) (by decide +kernel)

/-! SiteCuts$Reader -/
set_option maxRecDepth 100000
def RX7 : String := "SiteCuts$Reader"
def TX7 : u_T := fun k => match k with
  | 0 => ("SiteCuts$Reader", "signs", "Ljava/lang/CharSequence;", true)
  | _ => ("SiteCuts$Reader", "place", "I", false)
def tyX7 : Nat → FieldType := fun k => match k with
  | 0 => .object "java/lang/CharSequence"
  | _ => .int
abbrev wsX70 : List Cond := u_ws RX7 TX7 2
theorem nmX7 : ∀ a, a < 2 → ∀ b, b < 2 → a ≠ b → (TX7 a).2.1 ≠ (TX7 b).2.1 := by decide +kernel
theorem tyX7_ok : ∀ k, k < 2 → parseFieldDescriptor (TX7 k).2.2.1 = some (tyX7 k) := by decide +kernel
abbrev cX7_init : ByteArray := prog_13_method_1_code
def yX7_init : MethodName := ⟨RX7, "<init>", "(Ljava/lang/CharSequence;)V"⟩
def dkwX7_init_0 : List UInt8 := [42, 183, 0, 3, 42, 43, 181, 0, 9, 177]
abbrev dktX7_init_0 : List UInt8 := dkwX7_init_0 ++ []
theorem dksX7_init_0 : cX7_init.data.toList.drop 0 = dktX7_init_0 := by decide +kernel
theorem dX7_init_0 : decode cX7_init 0 = .ok (.aload_n 0, 1) := dk_42 (dk_at dksX7_init_0 0 rfl rfl)
theorem dX7_init_1 : decode cX7_init 1 = .ok (.invokespecial 3, 3) := dk_183 0 3 (dk_at dksX7_init_0 1 rfl rfl)
theorem dX7_init_4 : decode cX7_init 4 = .ok (.aload_n 0, 1) := dk_42 (dk_at dksX7_init_0 4 rfl rfl)
theorem dX7_init_5 : decode cX7_init 5 = .ok (.aload_n 1, 1) := dk_43 (dk_at dksX7_init_0 5 rfl rfl)
theorem dX7_init_6 : decode cX7_init 6 = .ok (.putfield 9, 3) := dk_181 0 9 (dk_at dksX7_init_0 6 rfl rfl)
theorem dX7_init_9 : decode cX7_init 9 = .ok (.return_, 1) := dk_177 (dk_at dksX7_init_0 9 rfl rfl)
abbrev cX7_numbers : ByteArray := prog_13_method_4_code
def yX7_numbers : MethodName := ⟨RX7, "numbers", "(I)[I"⟩
def dkwX7_numbers_5 : List UInt8 := [183, 0, 35, 191, 44, 176]
abbrev dktX7_numbers_5 : List UInt8 := dkwX7_numbers_5 ++ []
def dkwX7_numbers_4 : List UInt8 := [180, 0, 15, 42, 180, 0, 9, 185, 0, 19, 1, 0, 162, 0, 15, 187, 0, 33, 89, 42, 180, 0, 15]
abbrev dktX7_numbers_4 : List UInt8 := dkwX7_numbers_4 ++ dktX7_numbers_5
def dkwX7_numbers_3 : List UInt8 := [4, 167, 0, 4, 3, 96, 181, 0, 15, 44, 29, 42, 182, 0, 38, 79, 132, 3, 1, 167, 255, 173, 42]
abbrev dktX7_numbers_3 : List UInt8 := dkwX7_numbers_3 ++ dktX7_numbers_4
def dkwX7_numbers_2 : List UInt8 := [159, 0, 15, 187, 0, 33, 89, 42, 180, 0, 15, 183, 0, 35, 191, 42, 89, 180, 0, 15, 29, 158, 0, 7]
abbrev dktX7_numbers_2 : List UInt8 := dkwX7_numbers_2 ++ dktX7_numbers_3
def dkwX7_numbers_1 : List UInt8 := [185, 0, 19, 1, 0, 159, 0, 21, 42, 180, 0, 9, 42, 180, 0, 15, 185, 0, 25, 2, 0, 16, 44]
abbrev dktX7_numbers_1 : List UInt8 := dkwX7_numbers_1 ++ dktX7_numbers_2
def dkwX7_numbers_0 : List UInt8 := [16, 8, 188, 10, 77, 3, 62, 29, 27, 162, 0, 84, 29, 158, 0, 49, 42, 180, 0, 15, 42, 180, 0, 9]
abbrev dktX7_numbers_0 : List UInt8 := dkwX7_numbers_0 ++ dktX7_numbers_1
theorem dksX7_numbers_0 : cX7_numbers.data.toList.drop 0 = dktX7_numbers_0 := by decide +kernel
theorem dksX7_numbers_1 : cX7_numbers.data.toList.drop 24 = dktX7_numbers_1 := dk_seg dksX7_numbers_0 24 rfl rfl
theorem dksX7_numbers_2 : cX7_numbers.data.toList.drop 47 = dktX7_numbers_2 := dk_seg dksX7_numbers_1 23 rfl rfl
theorem dksX7_numbers_3 : cX7_numbers.data.toList.drop 71 = dktX7_numbers_3 := dk_seg dksX7_numbers_2 24 rfl rfl
theorem dksX7_numbers_4 : cX7_numbers.data.toList.drop 94 = dktX7_numbers_4 := dk_seg dksX7_numbers_3 23 rfl rfl
theorem dksX7_numbers_5 : cX7_numbers.data.toList.drop 117 = dktX7_numbers_5 := dk_seg dksX7_numbers_4 23 rfl rfl
theorem dX7_numbers_0 : decode cX7_numbers 0 = .ok (.bipush 8, 2) := dk_16 8 (dk_at dksX7_numbers_0 0 rfl rfl)
theorem dX7_numbers_2 : decode cX7_numbers 2 = .ok (.newarray .int, 2) := dk_188_10 (dk_at dksX7_numbers_0 2 rfl rfl)
theorem dX7_numbers_4 : decode cX7_numbers 4 = .ok (.astore_n 2, 1) := dk_77 (dk_at dksX7_numbers_0 4 rfl rfl)
theorem dX7_numbers_5 : decode cX7_numbers 5 = .ok (.iconst 0, 1) := dk_3 (dk_at dksX7_numbers_0 5 rfl rfl)
theorem dX7_numbers_6 : decode cX7_numbers 6 = .ok (.istore_n 3, 1) := dk_62 (dk_at dksX7_numbers_0 6 rfl rfl)
theorem dX7_numbers_7 : decode cX7_numbers 7 = .ok (.iload_n 3, 1) := dk_29 (dk_at dksX7_numbers_0 7 rfl rfl)
theorem dX7_numbers_8 : decode cX7_numbers 8 = .ok (.iload_n 1, 1) := dk_27 (dk_at dksX7_numbers_0 8 rfl rfl)
theorem dX7_numbers_9 : decode cX7_numbers 9 = .ok (.if_icmp .ge 84, 3) := dk_162 0 84 (dk_at dksX7_numbers_0 9 rfl rfl)
theorem dX7_numbers_12 : decode cX7_numbers 12 = .ok (.iload_n 3, 1) := dk_29 (dk_at dksX7_numbers_0 12 rfl rfl)
theorem dX7_numbers_13 : decode cX7_numbers 13 = .ok (.ifCond .le 49, 3) := dk_158 0 49 (dk_at dksX7_numbers_0 13 rfl rfl)
theorem dX7_numbers_16 : decode cX7_numbers 16 = .ok (.aload_n 0, 1) := dk_42 (dk_at dksX7_numbers_0 16 rfl rfl)
theorem dX7_numbers_17 : decode cX7_numbers 17 = .ok (.getfield 15, 3) := dk_180 0 15 (dk_at dksX7_numbers_0 17 rfl rfl)
theorem dX7_numbers_20 : decode cX7_numbers 20 = .ok (.aload_n 0, 1) := dk_42 (dk_at dksX7_numbers_0 20 rfl rfl)
theorem dX7_numbers_21 : decode cX7_numbers 21 = .ok (.getfield 9, 3) := dk_180 0 9 (dk_at dksX7_numbers_0 21 rfl rfl)
theorem dX7_numbers_24 : decode cX7_numbers 24 = .ok (.invokeinterface 19 1, 5) := by decide +kernel
theorem dX7_numbers_29 : decode cX7_numbers 29 = .ok (.if_icmp .eq 21, 3) := dk_159 0 21 (dk_at dksX7_numbers_1 5 rfl rfl)
theorem dX7_numbers_32 : decode cX7_numbers 32 = .ok (.aload_n 0, 1) := dk_42 (dk_at dksX7_numbers_1 8 rfl rfl)
theorem dX7_numbers_33 : decode cX7_numbers 33 = .ok (.getfield 9, 3) := dk_180 0 9 (dk_at dksX7_numbers_1 9 rfl rfl)
theorem dX7_numbers_36 : decode cX7_numbers 36 = .ok (.aload_n 0, 1) := dk_42 (dk_at dksX7_numbers_1 12 rfl rfl)
theorem dX7_numbers_37 : decode cX7_numbers 37 = .ok (.getfield 15, 3) := dk_180 0 15 (dk_at dksX7_numbers_1 13 rfl rfl)
theorem dX7_numbers_40 : decode cX7_numbers 40 = .ok (.invokeinterface 25 2, 5) := by decide +kernel
theorem dX7_numbers_45 : decode cX7_numbers 45 = .ok (.bipush 44, 2) := dk_16 44 (dk_at dksX7_numbers_1 21 rfl rfl)
theorem dX7_numbers_47 : decode cX7_numbers 47 = .ok (.if_icmp .eq 15, 3) := dk_159 0 15 (dk_at dksX7_numbers_2 0 rfl rfl)
theorem dX7_numbers_50 : decode cX7_numbers 50 = .ok (.new 33, 3) := dk_187 0 33 (dk_at dksX7_numbers_2 3 rfl rfl)
theorem dX7_numbers_53 : decode cX7_numbers 53 = .ok (.dup, 1) := dk_89 (dk_at dksX7_numbers_2 6 rfl rfl)
theorem dX7_numbers_54 : decode cX7_numbers 54 = .ok (.aload_n 0, 1) := dk_42 (dk_at dksX7_numbers_2 7 rfl rfl)
theorem dX7_numbers_55 : decode cX7_numbers 55 = .ok (.getfield 15, 3) := dk_180 0 15 (dk_at dksX7_numbers_2 8 rfl rfl)
theorem dX7_numbers_58 : decode cX7_numbers 58 = .ok (.invokespecial 35, 3) := dk_183 0 35 (dk_at dksX7_numbers_2 11 rfl rfl)
theorem dX7_numbers_61 : decode cX7_numbers 61 = .ok (.athrow, 1) := dk_191 (dk_at dksX7_numbers_2 14 rfl rfl)
theorem dX7_numbers_62 : decode cX7_numbers 62 = .ok (.aload_n 0, 1) := dk_42 (dk_at dksX7_numbers_2 15 rfl rfl)
theorem dX7_numbers_63 : decode cX7_numbers 63 = .ok (.dup, 1) := dk_89 (dk_at dksX7_numbers_2 16 rfl rfl)
theorem dX7_numbers_64 : decode cX7_numbers 64 = .ok (.getfield 15, 3) := dk_180 0 15 (dk_at dksX7_numbers_2 17 rfl rfl)
theorem dX7_numbers_67 : decode cX7_numbers 67 = .ok (.iload_n 3, 1) := dk_29 (dk_at dksX7_numbers_2 20 rfl rfl)
theorem dX7_numbers_68 : decode cX7_numbers 68 = .ok (.ifCond .le 7, 3) := dk_158 0 7 (dk_at dksX7_numbers_2 21 rfl rfl)
theorem dX7_numbers_71 : decode cX7_numbers 71 = .ok (.iconst 1, 1) := dk_4 (dk_at dksX7_numbers_3 0 rfl rfl)
theorem dX7_numbers_72 : decode cX7_numbers 72 = .ok (.goto 4, 3) := dk_167 0 4 (dk_at dksX7_numbers_3 1 rfl rfl)
theorem dX7_numbers_75 : decode cX7_numbers 75 = .ok (.iconst 0, 1) := dk_3 (dk_at dksX7_numbers_3 4 rfl rfl)
theorem dX7_numbers_76 : decode cX7_numbers 76 = .ok (.iadd, 1) := dk_96 (dk_at dksX7_numbers_3 5 rfl rfl)
theorem dX7_numbers_77 : decode cX7_numbers 77 = .ok (.putfield 15, 3) := dk_181 0 15 (dk_at dksX7_numbers_3 6 rfl rfl)
theorem dX7_numbers_80 : decode cX7_numbers 80 = .ok (.aload_n 2, 1) := dk_44 (dk_at dksX7_numbers_3 9 rfl rfl)
theorem dX7_numbers_81 : decode cX7_numbers 81 = .ok (.iload_n 3, 1) := dk_29 (dk_at dksX7_numbers_3 10 rfl rfl)
theorem dX7_numbers_82 : decode cX7_numbers 82 = .ok (.aload_n 0, 1) := dk_42 (dk_at dksX7_numbers_3 11 rfl rfl)
theorem dX7_numbers_83 : decode cX7_numbers 83 = .ok (.invokevirtual 38, 3) := dk_182 0 38 (dk_at dksX7_numbers_3 12 rfl rfl)
theorem dX7_numbers_86 : decode cX7_numbers 86 = .ok (.iastore, 1) := dk_79 (dk_at dksX7_numbers_3 15 rfl rfl)
theorem dX7_numbers_87 : decode cX7_numbers 87 = .ok (.iinc 3 1, 3) := dk_132 3 1 (dk_at dksX7_numbers_3 16 rfl rfl)
theorem dX7_numbers_90 : decode cX7_numbers 90 = .ok (.goto (-83), 3) := dk_167 255 173 (dk_at dksX7_numbers_3 19 rfl rfl)
theorem dX7_numbers_93 : decode cX7_numbers 93 = .ok (.aload_n 0, 1) := dk_42 (dk_at dksX7_numbers_3 22 rfl rfl)
theorem dX7_numbers_94 : decode cX7_numbers 94 = .ok (.getfield 15, 3) := dk_180 0 15 (dk_at dksX7_numbers_4 0 rfl rfl)
theorem dX7_numbers_97 : decode cX7_numbers 97 = .ok (.aload_n 0, 1) := dk_42 (dk_at dksX7_numbers_4 3 rfl rfl)
theorem dX7_numbers_98 : decode cX7_numbers 98 = .ok (.getfield 9, 3) := dk_180 0 9 (dk_at dksX7_numbers_4 4 rfl rfl)
theorem dX7_numbers_101 : decode cX7_numbers 101 = .ok (.invokeinterface 19 1, 5) := by decide +kernel
theorem dX7_numbers_106 : decode cX7_numbers 106 = .ok (.if_icmp .ge 15, 3) := dk_162 0 15 (dk_at dksX7_numbers_4 12 rfl rfl)
theorem dX7_numbers_109 : decode cX7_numbers 109 = .ok (.new 33, 3) := dk_187 0 33 (dk_at dksX7_numbers_4 15 rfl rfl)
theorem dX7_numbers_112 : decode cX7_numbers 112 = .ok (.dup, 1) := dk_89 (dk_at dksX7_numbers_4 18 rfl rfl)
theorem dX7_numbers_113 : decode cX7_numbers 113 = .ok (.aload_n 0, 1) := dk_42 (dk_at dksX7_numbers_4 19 rfl rfl)
theorem dX7_numbers_114 : decode cX7_numbers 114 = .ok (.getfield 15, 3) := dk_180 0 15 (dk_at dksX7_numbers_4 20 rfl rfl)
theorem dX7_numbers_117 : decode cX7_numbers 117 = .ok (.invokespecial 35, 3) := dk_183 0 35 (dk_at dksX7_numbers_5 0 rfl rfl)
theorem dX7_numbers_120 : decode cX7_numbers 120 = .ok (.athrow, 1) := dk_191 (dk_at dksX7_numbers_5 3 rfl rfl)
theorem dX7_numbers_121 : decode cX7_numbers 121 = .ok (.aload_n 2, 1) := dk_44 (dk_at dksX7_numbers_5 4 rfl rfl)
theorem dX7_numbers_122 : decode cX7_numbers 122 = .ok (.areturn, 1) := dk_176 (dk_at dksX7_numbers_5 5 rfl rfl)
abbrev cX7_number : ByteArray := prog_13_method_3_code
def yX7_number : MethodName := ⟨RX7, "number", "()I"⟩
def dkwX7_number_3 : List UInt8 := [181, 0, 15, 185, 0, 25, 2, 0, 96, 16, 48, 100, 167, 0, 4, 27, 172]
abbrev dktX7_number_3 : List UInt8 := dkwX7_number_3 ++ []
def dkwX7_number_2 : List UInt8 := [182, 0, 29, 153, 0, 34, 16, 10, 27, 104, 42, 180, 0, 9, 42, 89, 180, 0, 15, 90, 4, 96]
abbrev dktX7_number_2 : List UInt8 := dkwX7_number_2 ++ dktX7_number_3
def dkwX7_number_1 : List UInt8 := [89, 180, 0, 15, 90, 4, 96, 181, 0, 15, 185, 0, 25, 2, 0, 16, 48, 100, 60, 27, 158, 0, 41, 42]
abbrev dktX7_number_1 : List UInt8 := dkwX7_number_1 ++ dktX7_number_2
def dkwX7_number_0 : List UInt8 := [42, 182, 0, 29, 154, 0, 15, 187, 0, 33, 89, 42, 180, 0, 15, 183, 0, 35, 191, 42, 180, 0, 9, 42]
abbrev dktX7_number_0 : List UInt8 := dkwX7_number_0 ++ dktX7_number_1
theorem dksX7_number_0 : cX7_number.data.toList.drop 0 = dktX7_number_0 := by decide +kernel
theorem dksX7_number_1 : cX7_number.data.toList.drop 24 = dktX7_number_1 := dk_seg dksX7_number_0 24 rfl rfl
theorem dksX7_number_2 : cX7_number.data.toList.drop 48 = dktX7_number_2 := dk_seg dksX7_number_1 24 rfl rfl
theorem dksX7_number_3 : cX7_number.data.toList.drop 70 = dktX7_number_3 := dk_seg dksX7_number_2 22 rfl rfl
theorem dX7_number_0 : decode cX7_number 0 = .ok (.aload_n 0, 1) := dk_42 (dk_at dksX7_number_0 0 rfl rfl)
theorem dX7_number_1 : decode cX7_number 1 = .ok (.invokevirtual 29, 3) := dk_182 0 29 (dk_at dksX7_number_0 1 rfl rfl)
theorem dX7_number_4 : decode cX7_number 4 = .ok (.ifCond .ne 15, 3) := dk_154 0 15 (dk_at dksX7_number_0 4 rfl rfl)
theorem dX7_number_7 : decode cX7_number 7 = .ok (.new 33, 3) := dk_187 0 33 (dk_at dksX7_number_0 7 rfl rfl)
theorem dX7_number_10 : decode cX7_number 10 = .ok (.dup, 1) := dk_89 (dk_at dksX7_number_0 10 rfl rfl)
theorem dX7_number_11 : decode cX7_number 11 = .ok (.aload_n 0, 1) := dk_42 (dk_at dksX7_number_0 11 rfl rfl)
theorem dX7_number_12 : decode cX7_number 12 = .ok (.getfield 15, 3) := dk_180 0 15 (dk_at dksX7_number_0 12 rfl rfl)
theorem dX7_number_15 : decode cX7_number 15 = .ok (.invokespecial 35, 3) := dk_183 0 35 (dk_at dksX7_number_0 15 rfl rfl)
theorem dX7_number_18 : decode cX7_number 18 = .ok (.athrow, 1) := dk_191 (dk_at dksX7_number_0 18 rfl rfl)
theorem dX7_number_19 : decode cX7_number 19 = .ok (.aload_n 0, 1) := dk_42 (dk_at dksX7_number_0 19 rfl rfl)
theorem dX7_number_20 : decode cX7_number 20 = .ok (.getfield 9, 3) := dk_180 0 9 (dk_at dksX7_number_0 20 rfl rfl)
theorem dX7_number_23 : decode cX7_number 23 = .ok (.aload_n 0, 1) := dk_42 (dk_at dksX7_number_0 23 rfl rfl)
theorem dX7_number_24 : decode cX7_number 24 = .ok (.dup, 1) := dk_89 (dk_at dksX7_number_1 0 rfl rfl)
theorem dX7_number_25 : decode cX7_number 25 = .ok (.getfield 15, 3) := dk_180 0 15 (dk_at dksX7_number_1 1 rfl rfl)
theorem dX7_number_28 : decode cX7_number 28 = .ok (.dup_x1, 1) := dk_90 (dk_at dksX7_number_1 4 rfl rfl)
theorem dX7_number_29 : decode cX7_number 29 = .ok (.iconst 1, 1) := dk_4 (dk_at dksX7_number_1 5 rfl rfl)
theorem dX7_number_30 : decode cX7_number 30 = .ok (.iadd, 1) := dk_96 (dk_at dksX7_number_1 6 rfl rfl)
theorem dX7_number_31 : decode cX7_number 31 = .ok (.putfield 15, 3) := dk_181 0 15 (dk_at dksX7_number_1 7 rfl rfl)
theorem dX7_number_34 : decode cX7_number 34 = .ok (.invokeinterface 25 2, 5) := by decide +kernel
theorem dX7_number_39 : decode cX7_number 39 = .ok (.bipush 48, 2) := dk_16 48 (dk_at dksX7_number_1 15 rfl rfl)
theorem dX7_number_41 : decode cX7_number 41 = .ok (.isub, 1) := dk_100 (dk_at dksX7_number_1 17 rfl rfl)
theorem dX7_number_42 : decode cX7_number 42 = .ok (.istore_n 1, 1) := dk_60 (dk_at dksX7_number_1 18 rfl rfl)
theorem dX7_number_43 : decode cX7_number 43 = .ok (.iload_n 1, 1) := dk_27 (dk_at dksX7_number_1 19 rfl rfl)
theorem dX7_number_44 : decode cX7_number 44 = .ok (.ifCond .le 41, 3) := dk_158 0 41 (dk_at dksX7_number_1 20 rfl rfl)
theorem dX7_number_47 : decode cX7_number 47 = .ok (.aload_n 0, 1) := dk_42 (dk_at dksX7_number_1 23 rfl rfl)
theorem dX7_number_48 : decode cX7_number 48 = .ok (.invokevirtual 29, 3) := dk_182 0 29 (dk_at dksX7_number_2 0 rfl rfl)
theorem dX7_number_51 : decode cX7_number 51 = .ok (.ifCond .eq 34, 3) := dk_153 0 34 (dk_at dksX7_number_2 3 rfl rfl)
theorem dX7_number_54 : decode cX7_number 54 = .ok (.bipush 10, 2) := dk_16 10 (dk_at dksX7_number_2 6 rfl rfl)
theorem dX7_number_56 : decode cX7_number 56 = .ok (.iload_n 1, 1) := dk_27 (dk_at dksX7_number_2 8 rfl rfl)
theorem dX7_number_57 : decode cX7_number 57 = .ok (.imul, 1) := dk_104 (dk_at dksX7_number_2 9 rfl rfl)
theorem dX7_number_58 : decode cX7_number 58 = .ok (.aload_n 0, 1) := dk_42 (dk_at dksX7_number_2 10 rfl rfl)
theorem dX7_number_59 : decode cX7_number 59 = .ok (.getfield 9, 3) := dk_180 0 9 (dk_at dksX7_number_2 11 rfl rfl)
theorem dX7_number_62 : decode cX7_number 62 = .ok (.aload_n 0, 1) := dk_42 (dk_at dksX7_number_2 14 rfl rfl)
theorem dX7_number_63 : decode cX7_number 63 = .ok (.dup, 1) := dk_89 (dk_at dksX7_number_2 15 rfl rfl)
theorem dX7_number_64 : decode cX7_number 64 = .ok (.getfield 15, 3) := dk_180 0 15 (dk_at dksX7_number_2 16 rfl rfl)
theorem dX7_number_67 : decode cX7_number 67 = .ok (.dup_x1, 1) := dk_90 (dk_at dksX7_number_2 19 rfl rfl)
theorem dX7_number_68 : decode cX7_number 68 = .ok (.iconst 1, 1) := dk_4 (dk_at dksX7_number_2 20 rfl rfl)
theorem dX7_number_69 : decode cX7_number 69 = .ok (.iadd, 1) := dk_96 (dk_at dksX7_number_2 21 rfl rfl)
theorem dX7_number_70 : decode cX7_number 70 = .ok (.putfield 15, 3) := dk_181 0 15 (dk_at dksX7_number_3 0 rfl rfl)
theorem dX7_number_73 : decode cX7_number 73 = .ok (.invokeinterface 25 2, 5) := by decide +kernel
theorem dX7_number_78 : decode cX7_number 78 = .ok (.iadd, 1) := dk_96 (dk_at dksX7_number_3 8 rfl rfl)
theorem dX7_number_79 : decode cX7_number 79 = .ok (.bipush 48, 2) := dk_16 48 (dk_at dksX7_number_3 9 rfl rfl)
theorem dX7_number_81 : decode cX7_number 81 = .ok (.isub, 1) := dk_100 (dk_at dksX7_number_3 11 rfl rfl)
theorem dX7_number_82 : decode cX7_number 82 = .ok (.goto 4, 3) := dk_167 0 4 (dk_at dksX7_number_3 12 rfl rfl)
theorem dX7_number_85 : decode cX7_number 85 = .ok (.iload_n 1, 1) := dk_27 (dk_at dksX7_number_3 15 rfl rfl)
theorem dX7_number_86 : decode cX7_number 86 = .ok (.ireturn, 1) := dk_172 (dk_at dksX7_number_3 16 rfl rfl)
abbrev cX7_isDigit : ByteArray := prog_13_method_2_code
def yX7_isDigit : MethodName := ⟨RX7, "isDigit", "()Z"⟩
def dkwX7_isDigit_2 : List UInt8 := [16, 57, 163, 0, 7, 4, 167, 0, 4, 3, 172]
abbrev dktX7_isDigit_2 : List UInt8 := dkwX7_isDigit_2 ++ []
def dkwX7_isDigit_1 : List UInt8 := [185, 0, 25, 2, 0, 16, 48, 161, 0, 25, 42, 180, 0, 9, 42, 180, 0, 15, 185, 0, 25, 2, 0]
abbrev dktX7_isDigit_1 : List UInt8 := dkwX7_isDigit_1 ++ dktX7_isDigit_2
def dkwX7_isDigit_0 : List UInt8 := [42, 180, 0, 15, 42, 180, 0, 9, 185, 0, 19, 1, 0, 162, 0, 43, 42, 180, 0, 9, 42, 180, 0, 15]
abbrev dktX7_isDigit_0 : List UInt8 := dkwX7_isDigit_0 ++ dktX7_isDigit_1
theorem dksX7_isDigit_0 : cX7_isDigit.data.toList.drop 0 = dktX7_isDigit_0 := by decide +kernel
theorem dksX7_isDigit_1 : cX7_isDigit.data.toList.drop 24 = dktX7_isDigit_1 := dk_seg dksX7_isDigit_0 24 rfl rfl
theorem dksX7_isDigit_2 : cX7_isDigit.data.toList.drop 47 = dktX7_isDigit_2 := dk_seg dksX7_isDigit_1 23 rfl rfl
theorem dX7_isDigit_0 : decode cX7_isDigit 0 = .ok (.aload_n 0, 1) := dk_42 (dk_at dksX7_isDigit_0 0 rfl rfl)
theorem dX7_isDigit_1 : decode cX7_isDigit 1 = .ok (.getfield 15, 3) := dk_180 0 15 (dk_at dksX7_isDigit_0 1 rfl rfl)
theorem dX7_isDigit_4 : decode cX7_isDigit 4 = .ok (.aload_n 0, 1) := dk_42 (dk_at dksX7_isDigit_0 4 rfl rfl)
theorem dX7_isDigit_5 : decode cX7_isDigit 5 = .ok (.getfield 9, 3) := dk_180 0 9 (dk_at dksX7_isDigit_0 5 rfl rfl)
theorem dX7_isDigit_8 : decode cX7_isDigit 8 = .ok (.invokeinterface 19 1, 5) := by decide +kernel
theorem dX7_isDigit_13 : decode cX7_isDigit 13 = .ok (.if_icmp .ge 43, 3) := dk_162 0 43 (dk_at dksX7_isDigit_0 13 rfl rfl)
theorem dX7_isDigit_16 : decode cX7_isDigit 16 = .ok (.aload_n 0, 1) := dk_42 (dk_at dksX7_isDigit_0 16 rfl rfl)
theorem dX7_isDigit_17 : decode cX7_isDigit 17 = .ok (.getfield 9, 3) := dk_180 0 9 (dk_at dksX7_isDigit_0 17 rfl rfl)
theorem dX7_isDigit_20 : decode cX7_isDigit 20 = .ok (.aload_n 0, 1) := dk_42 (dk_at dksX7_isDigit_0 20 rfl rfl)
theorem dX7_isDigit_21 : decode cX7_isDigit 21 = .ok (.getfield 15, 3) := dk_180 0 15 (dk_at dksX7_isDigit_0 21 rfl rfl)
theorem dX7_isDigit_24 : decode cX7_isDigit 24 = .ok (.invokeinterface 25 2, 5) := by decide +kernel
theorem dX7_isDigit_29 : decode cX7_isDigit 29 = .ok (.bipush 48, 2) := dk_16 48 (dk_at dksX7_isDigit_1 5 rfl rfl)
theorem dX7_isDigit_31 : decode cX7_isDigit 31 = .ok (.if_icmp .lt 25, 3) := dk_161 0 25 (dk_at dksX7_isDigit_1 7 rfl rfl)
theorem dX7_isDigit_34 : decode cX7_isDigit 34 = .ok (.aload_n 0, 1) := dk_42 (dk_at dksX7_isDigit_1 10 rfl rfl)
theorem dX7_isDigit_35 : decode cX7_isDigit 35 = .ok (.getfield 9, 3) := dk_180 0 9 (dk_at dksX7_isDigit_1 11 rfl rfl)
theorem dX7_isDigit_38 : decode cX7_isDigit 38 = .ok (.aload_n 0, 1) := dk_42 (dk_at dksX7_isDigit_1 14 rfl rfl)
theorem dX7_isDigit_39 : decode cX7_isDigit 39 = .ok (.getfield 15, 3) := dk_180 0 15 (dk_at dksX7_isDigit_1 15 rfl rfl)
theorem dX7_isDigit_42 : decode cX7_isDigit 42 = .ok (.invokeinterface 25 2, 5) := by decide +kernel
theorem dX7_isDigit_47 : decode cX7_isDigit 47 = .ok (.bipush 57, 2) := dk_16 57 (dk_at dksX7_isDigit_2 0 rfl rfl)
theorem dX7_isDigit_49 : decode cX7_isDigit 49 = .ok (.if_icmp .gt 7, 3) := dk_163 0 7 (dk_at dksX7_isDigit_2 2 rfl rfl)
theorem dX7_isDigit_52 : decode cX7_isDigit 52 = .ok (.iconst 1, 1) := dk_4 (dk_at dksX7_isDigit_2 5 rfl rfl)
theorem dX7_isDigit_53 : decode cX7_isDigit 53 = .ok (.goto 4, 3) := dk_167 0 4 (dk_at dksX7_isDigit_2 6 rfl rfl)
theorem dX7_isDigit_56 : decode cX7_isDigit 56 = .ok (.iconst 0, 1) := dk_3 (dk_at dksX7_isDigit_2 9 rfl rfl)
theorem dX7_isDigit_57 : decode cX7_isDigit 57 = .ok (.ireturn, 1) := dk_172 (dk_at dksX7_isDigit_2 10 rfl rfl)
theorem q82 : (Jvm.Cond.initialized "SiteCuts$Reader") ∈ lw_all := lw_g (lw_at lw_m1 24 rfl) rfl
theorem q295 : (Jvm.Cond.selects "SiteCuts$Reader" ({ cls := "java/lang/Object", name := "getClass", desc := "()Ljava/lang/Class;" } : Jvm.MethodName) ({ cls := "java/lang/Object", name := "getClass", desc := "()Ljava/lang/Class;" } : Jvm.MethodName)) ∈ lw_all := lw_g (lw_at lw_m1 237 rfl) rfl
theorem q656 : (Jvm.Cond.instantiable "SiteCuts$Reader" (2 : Nat)) ∈ lw_all := lw_g (lw_at lw_m3 118 rfl) rfl
theorem q658 : (Jvm.Cond.instanceMethod ({ cls := "SiteCuts$Reader", name := "<init>", desc := "(Ljava/lang/CharSequence;)V" } : Jvm.MethodName)) ∈ lw_all := lw_g (lw_at lw_m3 120 rfl) rfl
theorem q659 : (Jvm.Cond.code ({ cls := "SiteCuts$Reader", name := "<init>", desc := "(Ljava/lang/CharSequence;)V" } : Jvm.MethodName) prog_13_method_1_code (2 : Nat) (Option.none : Option Jvm.ClassFile.FieldType)) ∈ lw_all := lw_g (lw_at lw_m3 121 rfl) rfl
theorem q660 : (Jvm.Cond.methodLink "SiteCuts$Reader" (3 : Nat) ({ cls := "java/lang/Object", name := "<init>", desc := "()V" } : Jvm.MethodName)) ∈ lw_all := lw_g (lw_at lw_m3 122 rfl) rfl
theorem q661 : (Jvm.Cond.fieldLink "SiteCuts$Reader" (9 : Nat) "SiteCuts$Reader" "signs" "Ljava/lang/CharSequence;") ∈ lw_all := lw_g (lw_at lw_m3 123 rfl) rfl
theorem q662 : (Jvm.Cond.fieldLink "SiteCuts$Reader" (15 : Nat) "SiteCuts$Reader" "place" "I") ∈ lw_all := lw_g (lw_at lw_m3 124 rfl) rfl
theorem q663 : (Jvm.Cond.laysFinal "SiteCuts$Reader" "SiteCuts$Reader" "signs" "Ljava/lang/CharSequence;") ∈ lw_all := lw_g (lw_at lw_m3 125 rfl) rfl
theorem q664 : (Jvm.Cond.soleField "SiteCuts$Reader" "signs") ∈ lw_all := lw_g (lw_at lw_m3 126 rfl) rfl
theorem q665 : (Jvm.Cond.lays "SiteCuts$Reader" "SiteCuts$Reader" "place" "I") ∈ lw_all := lw_g (lw_at lw_m3 127 rfl) rfl
theorem q666 : (Jvm.Cond.soleField "SiteCuts$Reader" "place") ∈ lw_all := lw_g (lw_at lw_m3 128 rfl) rfl
theorem q667 : (Jvm.Cond.superclass "SiteCuts$Reader" "java/lang/Object") ∈ lw_all := lw_g (lw_at lw_m3 129 rfl) rfl
theorem q669 : (Jvm.Cond.instanceMethod ({ cls := "SiteCuts$Reader", name := "numbers", desc := "(I)[I" } : Jvm.MethodName)) ∈ lw_all := lw_g (lw_at lw_m3 131 rfl) rfl
theorem q670 : (Jvm.Cond.selects "SiteCuts$Reader" ({ cls := "SiteCuts$Reader", name := "numbers", desc := "(I)[I" } : Jvm.MethodName) ({ cls := "SiteCuts$Reader", name := "numbers", desc := "(I)[I" } : Jvm.MethodName)) ∈ lw_all := lw_g (lw_at lw_m3 132 rfl) rfl
theorem q671 : (Jvm.Cond.code ({ cls := "SiteCuts$Reader", name := "numbers", desc := "(I)[I" } : Jvm.MethodName) prog_13_method_4_code (4 : Nat) (Option.some (Jvm.ClassFile.FieldType.array Jvm.ClassFile.FieldType.int))) ∈ lw_all := lw_g (lw_at lw_m3 133 rfl) rfl
theorem q672 : (Jvm.Cond.interfaceEntry "SiteCuts$Reader" (19 : Nat)) ∈ lw_tbl := lw_at lw_m3 134 rfl
theorem q673 : (Jvm.Cond.methodLink "SiteCuts$Reader" (19 : Nat) ({ cls := "java/lang/CharSequence", name := "length", desc := "()I" } : Jvm.MethodName)) ∈ lw_all := lw_g (lw_at lw_m3 135 rfl) rfl
theorem q685 : (Jvm.Cond.interfaceEntry "SiteCuts$Reader" (25 : Nat)) ∈ lw_tbl := lw_at lw_m3 147 rfl
theorem q686 : (Jvm.Cond.methodLink "SiteCuts$Reader" (25 : Nat) ({ cls := "java/lang/CharSequence", name := "charAt", desc := "(I)C" } : Jvm.MethodName)) ∈ lw_all := lw_g (lw_at lw_m3 148 rfl) rfl
theorem q716 : (Jvm.Cond.classLink "SiteCuts$Reader" (33 : Nat) "SiteCuts$TextFault") ∈ lw_all := lw_g (lw_at lw_m3 178 rfl) rfl
theorem q753 : (Jvm.Cond.methodLink "SiteCuts$Reader" (35 : Nat) ({ cls := "SiteCuts$TextFault", name := "<init>", desc := "(I)V" } : Jvm.MethodName)) ∈ lw_all := lw_g (lw_at lw_m3 215 rfl) rfl
theorem q776 : (Jvm.Cond.methodLink "SiteCuts$Reader" (38 : Nat) ({ cls := "SiteCuts$Reader", name := "number", desc := "()I" } : Jvm.MethodName)) ∈ lw_all := lw_g (lw_at lw_m3 238 rfl) rfl
theorem q777 : (Jvm.Cond.privateMethod ({ cls := "SiteCuts$Reader", name := "number", desc := "()I" } : Jvm.MethodName)) ∈ lw_tbl := lw_at lw_m3 239 rfl
theorem q778 : (Jvm.Cond.instanceMethod ({ cls := "SiteCuts$Reader", name := "number", desc := "()I" } : Jvm.MethodName)) ∈ lw_all := lw_g (lw_at lw_m4 0 rfl) rfl
theorem q779 : (Jvm.Cond.code ({ cls := "SiteCuts$Reader", name := "number", desc := "()I" } : Jvm.MethodName) prog_13_method_3_code (2 : Nat) (Option.some Jvm.ClassFile.FieldType.int)) ∈ lw_all := lw_g (lw_at lw_m4 1 rfl) rfl
theorem q780 : (Jvm.Cond.methodLink "SiteCuts$Reader" (29 : Nat) ({ cls := "SiteCuts$Reader", name := "isDigit", desc := "()Z" } : Jvm.MethodName)) ∈ lw_all := lw_g (lw_at lw_m4 2 rfl) rfl
theorem q781 : (Jvm.Cond.privateMethod ({ cls := "SiteCuts$Reader", name := "isDigit", desc := "()Z" } : Jvm.MethodName)) ∈ lw_tbl := lw_at lw_m4 3 rfl
theorem q782 : (Jvm.Cond.instanceMethod ({ cls := "SiteCuts$Reader", name := "isDigit", desc := "()Z" } : Jvm.MethodName)) ∈ lw_all := lw_g (lw_at lw_m4 4 rfl) rfl
theorem q783 : (Jvm.Cond.code ({ cls := "SiteCuts$Reader", name := "isDigit", desc := "()Z" } : Jvm.MethodName) prog_13_method_2_code (1 : Nat) (Option.some Jvm.ClassFile.FieldType.boolean)) ∈ lw_all := lw_g (lw_at lw_m4 5 rfl) rfl
theorem q1394 : (Jvm.Cond.castable "SiteCuts$Reader" "java/lang/Object") ∈ lw_tbl := lw_at lw_m6 136 rfl
theorem in_X7 : ∀ w ∈ wsX70, w ∈ lw_all := lw_in wsX70 [663, 665] (by decide +kernel) (by decide +kernel)
