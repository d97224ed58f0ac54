/-! DiskPacks$State -/
set_option maxRecDepth 100000
def RX2 : String := "DiskPacks$State"
def TX2 : u_T := fun k => match k with
  | 0 => ("DiskPacks$State", "drives", "[LDiskPacks$Drive;", true)
  | 1 => ("DiskPacks$State", "packs", "Ljava/util/List;", true)
  | 2 => ("DiskPacks$State", "retriesOfDrives", "[I", true)
  | 3 => ("DiskPacks$State", "retriesOfPacks", "[I", true)
  | 4 => ("DiskPacks$State", "tries", "I", false)
  | 5 => ("DiskPacks$State", "reads", "I", false)
  | _ => ("DiskPacks$State", "failures", "I", false)
def tyX2 : Nat → FieldType := fun k => match k with
  | 0 => .array (.object "DiskPacks$Drive")
  | 1 => .object "java/util/List"
  | 2 => .array .int
  | 3 => .array .int
  | 4 => .int
  | 5 => .int
  | _ => .int
abbrev wsX20 : List Cond := u_ws RX2 TX2 7
theorem nmX2 : ∀ a, a < 7 → ∀ b, b < 7 → a ≠ b → (TX2 a).2.1 ≠ (TX2 b).2.1 := by decide +kernel
theorem tyX2_ok : ∀ k, k < 7 → parseFieldDescriptor (TX2 k).2.2.1 = some (tyX2 k) := by decide +kernel
abbrev cX2_init : ByteArray := prog_9_method_1_code
def yX2_init : MethodName := ⟨RX2, "<init>", "()V"⟩
def dkwX2_init_2 : List UInt8 := [162, 0, 22, 42, 180, 0, 11, 27, 187, 0, 9, 89, 183, 0, 35, 83, 132, 1, 1, 167, 255, 235, 177]
abbrev dktX2_init_2 : List UInt8 := dkwX2_init_2 ++ []
def dkwX2_init_1 : List UInt8 := [7, 181, 0, 24, 42, 7, 188, 10, 181, 0, 28, 42, 16, 6, 188, 10, 181, 0, 32, 3, 60, 27, 7]
abbrev dktX2_init_1 : List UInt8 := dkwX2_init_1 ++ dktX2_init_2
def dkwX2_init_0 : List UInt8 := [42, 183, 0, 3, 42, 7, 189, 0, 9, 181, 0, 11, 42, 187, 0, 17, 89, 183, 0, 19, 181, 0, 20, 42]
abbrev dktX2_init_0 : List UInt8 := dkwX2_init_0 ++ dktX2_init_1
theorem dksX2_init_0 : cX2_init.data.toList.drop 0 = dktX2_init_0 := by decide +kernel
theorem dksX2_init_1 : cX2_init.data.toList.drop 24 = dktX2_init_1 := dk_seg dksX2_init_0 24 rfl rfl
theorem dksX2_init_2 : cX2_init.data.toList.drop 47 = dktX2_init_2 := dk_seg dksX2_init_1 23 rfl rfl
theorem dX2_init_0 : decode cX2_init 0 = .ok (.aload_n 0, 1) := dk_42 (dk_at dksX2_init_0 0 rfl rfl)
theorem dX2_init_1 : decode cX2_init 1 = .ok (.invokespecial 3, 3) := dk_183 0 3 (dk_at dksX2_init_0 1 rfl rfl)
theorem dX2_init_4 : decode cX2_init 4 = .ok (.aload_n 0, 1) := dk_42 (dk_at dksX2_init_0 4 rfl rfl)
theorem dX2_init_5 : decode cX2_init 5 = .ok (.iconst 4, 1) := dk_7 (dk_at dksX2_init_0 5 rfl rfl)
theorem dX2_init_6 : decode cX2_init 6 = .ok (.anewarray 9, 3) := dk_189 0 9 (dk_at dksX2_init_0 6 rfl rfl)
theorem dX2_init_9 : decode cX2_init 9 = .ok (.putfield 11, 3) := dk_181 0 11 (dk_at dksX2_init_0 9 rfl rfl)
theorem dX2_init_12 : decode cX2_init 12 = .ok (.aload_n 0, 1) := dk_42 (dk_at dksX2_init_0 12 rfl rfl)
theorem dX2_init_13 : decode cX2_init 13 = .ok (.new 17, 3) := dk_187 0 17 (dk_at dksX2_init_0 13 rfl rfl)
theorem dX2_init_16 : decode cX2_init 16 = .ok (.dup, 1) := dk_89 (dk_at dksX2_init_0 16 rfl rfl)
theorem dX2_init_17 : decode cX2_init 17 = .ok (.invokespecial 19, 3) := dk_183 0 19 (dk_at dksX2_init_0 17 rfl rfl)
theorem dX2_init_20 : decode cX2_init 20 = .ok (.putfield 20, 3) := dk_181 0 20 (dk_at dksX2_init_0 20 rfl rfl)
theorem dX2_init_23 : decode cX2_init 23 = .ok (.aload_n 0, 1) := dk_42 (dk_at dksX2_init_0 23 rfl rfl)
theorem dX2_init_24 : decode cX2_init 24 = .ok (.iconst 4, 1) := dk_7 (dk_at dksX2_init_1 0 rfl rfl)
theorem dX2_init_25 : decode cX2_init 25 = .ok (.putfield 24, 3) := dk_181 0 24 (dk_at dksX2_init_1 1 rfl rfl)
theorem dX2_init_28 : decode cX2_init 28 = .ok (.aload_n 0, 1) := dk_42 (dk_at dksX2_init_1 4 rfl rfl)
theorem dX2_init_29 : decode cX2_init 29 = .ok (.iconst 4, 1) := dk_7 (dk_at dksX2_init_1 5 rfl rfl)
theorem dX2_init_30 : decode cX2_init 30 = .ok (.newarray .int, 2) := dk_188_10 (dk_at dksX2_init_1 6 rfl rfl)
theorem dX2_init_32 : decode cX2_init 32 = .ok (.putfield 28, 3) := dk_181 0 28 (dk_at dksX2_init_1 8 rfl rfl)
theorem dX2_init_35 : decode cX2_init 35 = .ok (.aload_n 0, 1) := dk_42 (dk_at dksX2_init_1 11 rfl rfl)
theorem dX2_init_36 : decode cX2_init 36 = .ok (.bipush 6, 2) := dk_16 6 (dk_at dksX2_init_1 12 rfl rfl)
theorem dX2_init_38 : decode cX2_init 38 = .ok (.newarray .int, 2) := dk_188_10 (dk_at dksX2_init_1 14 rfl rfl)
theorem dX2_init_40 : decode cX2_init 40 = .ok (.putfield 32, 3) := dk_181 0 32 (dk_at dksX2_init_1 16 rfl rfl)
theorem dX2_init_43 : decode cX2_init 43 = .ok (.iconst 0, 1) := dk_3 (dk_at dksX2_init_1 19 rfl rfl)
theorem dX2_init_44 : decode cX2_init 44 = .ok (.istore_n 1, 1) := dk_60 (dk_at dksX2_init_1 20 rfl rfl)
theorem dX2_init_45 : decode cX2_init 45 = .ok (.iload_n 1, 1) := dk_27 (dk_at dksX2_init_1 21 rfl rfl)
theorem dX2_init_46 : decode cX2_init 46 = .ok (.iconst 4, 1) := dk_7 (dk_at dksX2_init_1 22 rfl rfl)
theorem dX2_init_47 : decode cX2_init 47 = .ok (.if_icmp .ge 22, 3) := dk_162 0 22 (dk_at dksX2_init_2 0 rfl rfl)
theorem dX2_init_50 : decode cX2_init 50 = .ok (.aload_n 0, 1) := dk_42 (dk_at dksX2_init_2 3 rfl rfl)
theorem dX2_init_51 : decode cX2_init 51 = .ok (.getfield 11, 3) := dk_180 0 11 (dk_at dksX2_init_2 4 rfl rfl)
theorem dX2_init_54 : decode cX2_init 54 = .ok (.iload_n 1, 1) := dk_27 (dk_at dksX2_init_2 7 rfl rfl)
theorem dX2_init_55 : decode cX2_init 55 = .ok (.new 9, 3) := dk_187 0 9 (dk_at dksX2_init_2 8 rfl rfl)
theorem dX2_init_58 : decode cX2_init 58 = .ok (.dup, 1) := dk_89 (dk_at dksX2_init_2 11 rfl rfl)
theorem dX2_init_59 : decode cX2_init 59 = .ok (.invokespecial 35, 3) := dk_183 0 35 (dk_at dksX2_init_2 12 rfl rfl)
theorem dX2_init_62 : decode cX2_init 62 = .ok (.aastore, 1) := dk_83 (dk_at dksX2_init_2 15 rfl rfl)
theorem dX2_init_63 : decode cX2_init 63 = .ok (.iinc 1 1, 3) := dk_132 1 1 (dk_at dksX2_init_2 16 rfl rfl)
theorem dX2_init_66 : decode cX2_init 66 = .ok (.goto (-21), 3) := dk_167 255 235 (dk_at dksX2_init_2 19 rfl rfl)
theorem dX2_init_69 : decode cX2_init 69 = .ok (.return_, 1) := dk_177 (dk_at dksX2_init_2 22 rfl rfl)
abbrev cX2_mount : ByteArray := prog_9_method_6_code
def yX2_mount : MethodName := ⟨RX2, "mount", "(II)Z"⟩
def dkwX2_mount_1 : List UInt8 := [180, 0, 20, 28, 185, 0, 57, 2, 0, 192, 0, 61, 27, 181, 0, 92, 29, 172]
abbrev dktX2_mount_1 : List UInt8 := dkwX2_mount_1 ++ []
def dkwX2_mount_0 : List UInt8 := [42, 27, 28, 182, 0, 88, 62, 29, 153, 0, 30, 42, 180, 0, 11, 27, 50, 28, 181, 0, 73, 42]
abbrev dktX2_mount_0 : List UInt8 := dkwX2_mount_0 ++ dktX2_mount_1
theorem dksX2_mount_0 : cX2_mount.data.toList.drop 0 = dktX2_mount_0 := by decide +kernel
theorem dksX2_mount_1 : cX2_mount.data.toList.drop 22 = dktX2_mount_1 := dk_seg dksX2_mount_0 22 rfl rfl
theorem dX2_mount_0 : decode cX2_mount 0 = .ok (.aload_n 0, 1) := dk_42 (dk_at dksX2_mount_0 0 rfl rfl)
theorem dX2_mount_1 : decode cX2_mount 1 = .ok (.iload_n 1, 1) := dk_27 (dk_at dksX2_mount_0 1 rfl rfl)
theorem dX2_mount_2 : decode cX2_mount 2 = .ok (.iload_n 2, 1) := dk_28 (dk_at dksX2_mount_0 2 rfl rfl)
theorem dX2_mount_3 : decode cX2_mount 3 = .ok (.invokevirtual 88, 3) := dk_182 0 88 (dk_at dksX2_mount_0 3 rfl rfl)
theorem dX2_mount_6 : decode cX2_mount 6 = .ok (.istore_n 3, 1) := dk_62 (dk_at dksX2_mount_0 6 rfl rfl)
theorem dX2_mount_7 : decode cX2_mount 7 = .ok (.iload_n 3, 1) := dk_29 (dk_at dksX2_mount_0 7 rfl rfl)
theorem dX2_mount_8 : decode cX2_mount 8 = .ok (.ifCond .eq 30, 3) := dk_153 0 30 (dk_at dksX2_mount_0 8 rfl rfl)
theorem dX2_mount_11 : decode cX2_mount 11 = .ok (.aload_n 0, 1) := dk_42 (dk_at dksX2_mount_0 11 rfl rfl)
theorem dX2_mount_12 : decode cX2_mount 12 = .ok (.getfield 11, 3) := dk_180 0 11 (dk_at dksX2_mount_0 12 rfl rfl)
theorem dX2_mount_15 : decode cX2_mount 15 = .ok (.iload_n 1, 1) := dk_27 (dk_at dksX2_mount_0 15 rfl rfl)
theorem dX2_mount_16 : decode cX2_mount 16 = .ok (.aaload, 1) := dk_50 (dk_at dksX2_mount_0 16 rfl rfl)
theorem dX2_mount_17 : decode cX2_mount 17 = .ok (.iload_n 2, 1) := dk_28 (dk_at dksX2_mount_0 17 rfl rfl)
theorem dX2_mount_18 : decode cX2_mount 18 = .ok (.putfield 73, 3) := dk_181 0 73 (dk_at dksX2_mount_0 18 rfl rfl)
theorem dX2_mount_21 : decode cX2_mount 21 = .ok (.aload_n 0, 1) := dk_42 (dk_at dksX2_mount_0 21 rfl rfl)
theorem dX2_mount_22 : decode cX2_mount 22 = .ok (.getfield 20, 3) := dk_180 0 20 (dk_at dksX2_mount_1 0 rfl rfl)
theorem dX2_mount_25 : decode cX2_mount 25 = .ok (.iload_n 2, 1) := dk_28 (dk_at dksX2_mount_1 3 rfl rfl)
theorem dX2_mount_26 : decode cX2_mount 26 = .ok (.invokeinterface 57 2, 5) := by decide +kernel
theorem dX2_mount_31 : decode cX2_mount 31 = .ok (.checkcast 61, 3) := dk_192 0 61 (dk_at dksX2_mount_1 9 rfl rfl)
theorem dX2_mount_34 : decode cX2_mount 34 = .ok (.iload_n 1, 1) := dk_27 (dk_at dksX2_mount_1 12 rfl rfl)
theorem dX2_mount_35 : decode cX2_mount 35 = .ok (.putfield 92, 3) := dk_181 0 92 (dk_at dksX2_mount_1 13 rfl rfl)
theorem dX2_mount_38 : decode cX2_mount 38 = .ok (.iload_n 3, 1) := dk_29 (dk_at dksX2_mount_1 16 rfl rfl)
theorem dX2_mount_39 : decode cX2_mount 39 = .ok (.ireturn, 1) := dk_172 (dk_at dksX2_mount_1 17 rfl rfl)
abbrev cX2_canMount : ByteArray := prog_9_method_5_code
def yX2_canMount : MethodName := ⟨RX2, "canMount", "(II)Z"⟩
def dkwX2_canMount_1 : List UInt8 := [89, 5, 42, 28, 186, 0, 83, 0, 0, 83, 78, 45, 184, 0, 84, 172]
abbrev dktX2_canMount_1 : List UInt8 := dkwX2_canMount_1 ++ []
def dkwX2_canMount_0 : List UInt8 := [6, 189, 0, 76, 89, 3, 42, 28, 186, 0, 78, 0, 0, 83, 89, 4, 42, 27, 186, 0, 82, 0, 0, 83]
abbrev dktX2_canMount_0 : List UInt8 := dkwX2_canMount_0 ++ dktX2_canMount_1
theorem dksX2_canMount_0 : cX2_canMount.data.toList.drop 0 = dktX2_canMount_0 := by decide +kernel
theorem dksX2_canMount_1 : cX2_canMount.data.toList.drop 24 = dktX2_canMount_1 := dk_seg dksX2_canMount_0 24 rfl rfl
theorem dX2_canMount_0 : decode cX2_canMount 0 = .ok (.iconst 3, 1) := dk_6 (dk_at dksX2_canMount_0 0 rfl rfl)
theorem dX2_canMount_1 : decode cX2_canMount 1 = .ok (.anewarray 76, 3) := dk_189 0 76 (dk_at dksX2_canMount_0 1 rfl rfl)
theorem dX2_canMount_4 : decode cX2_canMount 4 = .ok (.dup, 1) := dk_89 (dk_at dksX2_canMount_0 4 rfl rfl)
theorem dX2_canMount_5 : decode cX2_canMount 5 = .ok (.iconst 0, 1) := dk_3 (dk_at dksX2_canMount_0 5 rfl rfl)
theorem dX2_canMount_6 : decode cX2_canMount 6 = .ok (.aload_n 0, 1) := dk_42 (dk_at dksX2_canMount_0 6 rfl rfl)
theorem dX2_canMount_7 : decode cX2_canMount 7 = .ok (.iload_n 2, 1) := dk_28 (dk_at dksX2_canMount_0 7 rfl rfl)
theorem dX2_canMount_8 : decode cX2_canMount 8 = .ok (.invokedynamic 78, 5) := by decide +kernel
theorem dX2_canMount_13 : decode cX2_canMount 13 = .ok (.aastore, 1) := dk_83 (dk_at dksX2_canMount_0 13 rfl rfl)
theorem dX2_canMount_14 : decode cX2_canMount 14 = .ok (.dup, 1) := dk_89 (dk_at dksX2_canMount_0 14 rfl rfl)
theorem dX2_canMount_15 : decode cX2_canMount 15 = .ok (.iconst 1, 1) := dk_4 (dk_at dksX2_canMount_0 15 rfl rfl)
theorem dX2_canMount_16 : decode cX2_canMount 16 = .ok (.aload_n 0, 1) := dk_42 (dk_at dksX2_canMount_0 16 rfl rfl)
theorem dX2_canMount_17 : decode cX2_canMount 17 = .ok (.iload_n 1, 1) := dk_27 (dk_at dksX2_canMount_0 17 rfl rfl)
theorem dX2_canMount_18 : decode cX2_canMount 18 = .ok (.invokedynamic 82, 5) := by decide +kernel
theorem dX2_canMount_23 : decode cX2_canMount 23 = .ok (.aastore, 1) := dk_83 (dk_at dksX2_canMount_0 23 rfl rfl)
theorem dX2_canMount_24 : decode cX2_canMount 24 = .ok (.dup, 1) := dk_89 (dk_at dksX2_canMount_1 0 rfl rfl)
theorem dX2_canMount_25 : decode cX2_canMount 25 = .ok (.iconst 2, 1) := dk_5 (dk_at dksX2_canMount_1 1 rfl rfl)
theorem dX2_canMount_26 : decode cX2_canMount 26 = .ok (.aload_n 0, 1) := dk_42 (dk_at dksX2_canMount_1 2 rfl rfl)
theorem dX2_canMount_27 : decode cX2_canMount 27 = .ok (.iload_n 2, 1) := dk_28 (dk_at dksX2_canMount_1 3 rfl rfl)
theorem dX2_canMount_28 : decode cX2_canMount 28 = .ok (.invokedynamic 83, 5) := by decide +kernel
theorem dX2_canMount_33 : decode cX2_canMount 33 = .ok (.aastore, 1) := dk_83 (dk_at dksX2_canMount_1 9 rfl rfl)
theorem dX2_canMount_34 : decode cX2_canMount 34 = .ok (.astore_n 3, 1) := dk_78 (dk_at dksX2_canMount_1 10 rfl rfl)
theorem dX2_canMount_35 : decode cX2_canMount 35 = .ok (.aload_n 3, 1) := dk_45 (dk_at dksX2_canMount_1 11 rfl rfl)
theorem dX2_canMount_36 : decode cX2_canMount 36 = .ok (.invokestatic 84, 3) := dk_184 0 84 (dk_at dksX2_canMount_1 12 rfl rfl)
theorem dX2_canMount_39 : decode cX2_canMount 39 = .ok (.ireturn, 1) := dk_172 (dk_at dksX2_canMount_1 15 rfl rfl)
abbrev cX2_lambda_canMount_0 : ByteArray := prog_9_method_32_code
def yX2_lambda_canMount_0 : MethodName := ⟨RX2, "lambda$canMount$0", "(I)Z"⟩
def dkwX2_lambda_canMount_0_0 : List UInt8 := [27, 42, 180, 0, 20, 185, 0, 51, 1, 0, 161, 0, 7, 4, 167, 0, 4, 3, 172]
abbrev dktX2_lambda_canMount_0_0 : List UInt8 := dkwX2_lambda_canMount_0_0 ++ []
theorem dksX2_lambda_canMount_0_0 : cX2_lambda_canMount_0.data.toList.drop 0 = dktX2_lambda_canMount_0_0 := by decide +kernel
theorem dX2_lambda_canMount_0_0 : decode cX2_lambda_canMount_0 0 = .ok (.iload_n 1, 1) := dk_27 (dk_at dksX2_lambda_canMount_0_0 0 rfl rfl)
theorem dX2_lambda_canMount_0_1 : decode cX2_lambda_canMount_0 1 = .ok (.aload_n 0, 1) := dk_42 (dk_at dksX2_lambda_canMount_0_0 1 rfl rfl)
theorem dX2_lambda_canMount_0_2 : decode cX2_lambda_canMount_0 2 = .ok (.getfield 20, 3) := dk_180 0 20 (dk_at dksX2_lambda_canMount_0_0 2 rfl rfl)
theorem dX2_lambda_canMount_0_5 : decode cX2_lambda_canMount_0 5 = .ok (.invokeinterface 51 1, 5) := by decide +kernel
theorem dX2_lambda_canMount_0_10 : decode cX2_lambda_canMount_0 10 = .ok (.if_icmp .lt 7, 3) := dk_161 0 7 (dk_at dksX2_lambda_canMount_0_0 10 rfl rfl)
theorem dX2_lambda_canMount_0_13 : decode cX2_lambda_canMount_0 13 = .ok (.iconst 1, 1) := dk_4 (dk_at dksX2_lambda_canMount_0_0 13 rfl rfl)
theorem dX2_lambda_canMount_0_14 : decode cX2_lambda_canMount_0 14 = .ok (.goto 4, 3) := dk_167 0 4 (dk_at dksX2_lambda_canMount_0_0 14 rfl rfl)
theorem dX2_lambda_canMount_0_17 : decode cX2_lambda_canMount_0 17 = .ok (.iconst 0, 1) := dk_3 (dk_at dksX2_lambda_canMount_0_0 17 rfl rfl)
theorem dX2_lambda_canMount_0_18 : decode cX2_lambda_canMount_0 18 = .ok (.ireturn, 1) := dk_172 (dk_at dksX2_lambda_canMount_0_0 18 rfl rfl)
abbrev cX2_lambda_canMount_1 : ByteArray := prog_9_method_31_code
def yX2_lambda_canMount_1 : MethodName := ⟨RX2, "lambda$canMount$1", "(I)Z"⟩
def dkwX2_lambda_canMount_1_0 : List UInt8 := [42, 27, 182, 0, 95, 172]
abbrev dktX2_lambda_canMount_1_0 : List UInt8 := dkwX2_lambda_canMount_1_0 ++ []
theorem dksX2_lambda_canMount_1_0 : cX2_lambda_canMount_1.data.toList.drop 0 = dktX2_lambda_canMount_1_0 := by decide +kernel
theorem dX2_lambda_canMount_1_0 : decode cX2_lambda_canMount_1 0 = .ok (.aload_n 0, 1) := dk_42 (dk_at dksX2_lambda_canMount_1_0 0 rfl rfl)
theorem dX2_lambda_canMount_1_1 : decode cX2_lambda_canMount_1 1 = .ok (.iload_n 1, 1) := dk_27 (dk_at dksX2_lambda_canMount_1_0 1 rfl rfl)
theorem dX2_lambda_canMount_1_2 : decode cX2_lambda_canMount_1 2 = .ok (.invokevirtual 95, 3) := dk_182 0 95 (dk_at dksX2_lambda_canMount_1_0 2 rfl rfl)
theorem dX2_lambda_canMount_1_5 : decode cX2_lambda_canMount_1 5 = .ok (.ireturn, 1) := dk_172 (dk_at dksX2_lambda_canMount_1_0 5 rfl rfl)
abbrev cX2_hasPack : ByteArray := prog_9_method_4_code
def yX2_hasPack : MethodName := ⟨RX2, "hasPack", "(I)Z"⟩
def dkwX2_hasPack_0 : List UInt8 := [42, 180, 0, 11, 27, 50, 180, 0, 73, 2, 159, 0, 7, 4, 167, 0, 4, 3, 172]
abbrev dktX2_hasPack_0 : List UInt8 := dkwX2_hasPack_0 ++ []
theorem dksX2_hasPack_0 : cX2_hasPack.data.toList.drop 0 = dktX2_hasPack_0 := by decide +kernel
theorem dX2_hasPack_0 : decode cX2_hasPack 0 = .ok (.aload_n 0, 1) := dk_42 (dk_at dksX2_hasPack_0 0 rfl rfl)
theorem dX2_hasPack_1 : decode cX2_hasPack 1 = .ok (.getfield 11, 3) := dk_180 0 11 (dk_at dksX2_hasPack_0 1 rfl rfl)
theorem dX2_hasPack_4 : decode cX2_hasPack 4 = .ok (.iload_n 1, 1) := dk_27 (dk_at dksX2_hasPack_0 4 rfl rfl)
theorem dX2_hasPack_5 : decode cX2_hasPack 5 = .ok (.aaload, 1) := dk_50 (dk_at dksX2_hasPack_0 5 rfl rfl)
theorem dX2_hasPack_6 : decode cX2_hasPack 6 = .ok (.getfield 73, 3) := dk_180 0 73 (dk_at dksX2_hasPack_0 6 rfl rfl)
theorem dX2_hasPack_9 : decode cX2_hasPack 9 = .ok (.iconst (-1), 1) := dk_2 (dk_at dksX2_hasPack_0 9 rfl rfl)
theorem dX2_hasPack_10 : decode cX2_hasPack 10 = .ok (.if_icmp .eq 7, 3) := dk_159 0 7 (dk_at dksX2_hasPack_0 10 rfl rfl)
theorem dX2_hasPack_13 : decode cX2_hasPack 13 = .ok (.iconst 1, 1) := dk_4 (dk_at dksX2_hasPack_0 13 rfl rfl)
theorem dX2_hasPack_14 : decode cX2_hasPack 14 = .ok (.goto 4, 3) := dk_167 0 4 (dk_at dksX2_hasPack_0 14 rfl rfl)
theorem dX2_hasPack_17 : decode cX2_hasPack 17 = .ok (.iconst 0, 1) := dk_3 (dk_at dksX2_hasPack_0 17 rfl rfl)
theorem dX2_hasPack_18 : decode cX2_hasPack 18 = .ok (.ireturn, 1) := dk_172 (dk_at dksX2_hasPack_0 18 rfl rfl)
abbrev cX2_lambda_canMount_2 : ByteArray := prog_9_method_30_code
def yX2_lambda_canMount_2 : MethodName := ⟨RX2, "lambda$canMount$2", "(I)Z"⟩
def dkwX2_lambda_canMount_2_1 : List UInt8 := [3, 172]
abbrev dktX2_lambda_canMount_2_1 : List UInt8 := dkwX2_lambda_canMount_2_1 ++ []
def dkwX2_lambda_canMount_2_0 : List UInt8 := [42, 180, 0, 20, 27, 185, 0, 57, 2, 0, 192, 0, 61, 180, 0, 92, 2, 159, 0, 7, 4, 167, 0, 4]
abbrev dktX2_lambda_canMount_2_0 : List UInt8 := dkwX2_lambda_canMount_2_0 ++ dktX2_lambda_canMount_2_1
theorem dksX2_lambda_canMount_2_0 : cX2_lambda_canMount_2.data.toList.drop 0 = dktX2_lambda_canMount_2_0 := by decide +kernel
theorem dksX2_lambda_canMount_2_1 : cX2_lambda_canMount_2.data.toList.drop 24 = dktX2_lambda_canMount_2_1 := dk_seg dksX2_lambda_canMount_2_0 24 rfl rfl
theorem dX2_lambda_canMount_2_0 : decode cX2_lambda_canMount_2 0 = .ok (.aload_n 0, 1) := dk_42 (dk_at dksX2_lambda_canMount_2_0 0 rfl rfl)
theorem dX2_lambda_canMount_2_1 : decode cX2_lambda_canMount_2 1 = .ok (.getfield 20, 3) := dk_180 0 20 (dk_at dksX2_lambda_canMount_2_0 1 rfl rfl)
theorem dX2_lambda_canMount_2_4 : decode cX2_lambda_canMount_2 4 = .ok (.iload_n 1, 1) := dk_27 (dk_at dksX2_lambda_canMount_2_0 4 rfl rfl)
theorem dX2_lambda_canMount_2_5 : decode cX2_lambda_canMount_2 5 = .ok (.invokeinterface 57 2, 5) := by decide +kernel
theorem dX2_lambda_canMount_2_10 : decode cX2_lambda_canMount_2 10 = .ok (.checkcast 61, 3) := dk_192 0 61 (dk_at dksX2_lambda_canMount_2_0 10 rfl rfl)
theorem dX2_lambda_canMount_2_13 : decode cX2_lambda_canMount_2 13 = .ok (.getfield 92, 3) := dk_180 0 92 (dk_at dksX2_lambda_canMount_2_0 13 rfl rfl)
theorem dX2_lambda_canMount_2_16 : decode cX2_lambda_canMount_2 16 = .ok (.iconst (-1), 1) := dk_2 (dk_at dksX2_lambda_canMount_2_0 16 rfl rfl)
theorem dX2_lambda_canMount_2_17 : decode cX2_lambda_canMount_2 17 = .ok (.if_icmp .eq 7, 3) := dk_159 0 7 (dk_at dksX2_lambda_canMount_2_0 17 rfl rfl)
theorem dX2_lambda_canMount_2_20 : decode cX2_lambda_canMount_2 20 = .ok (.iconst 1, 1) := dk_4 (dk_at dksX2_lambda_canMount_2_0 20 rfl rfl)
theorem dX2_lambda_canMount_2_21 : decode cX2_lambda_canMount_2 21 = .ok (.goto 4, 3) := dk_167 0 4 (dk_at dksX2_lambda_canMount_2_0 21 rfl rfl)
theorem dX2_lambda_canMount_2_24 : decode cX2_lambda_canMount_2 24 = .ok (.iconst 0, 1) := dk_3 (dk_at dksX2_lambda_canMount_2_1 0 rfl rfl)
theorem dX2_lambda_canMount_2_25 : decode cX2_lambda_canMount_2 25 = .ok (.ireturn, 1) := dk_172 (dk_at dksX2_lambda_canMount_2_1 1 rfl rfl)
abbrev cX2_unmount : ByteArray := prog_9_method_7_code
def yX2_unmount : MethodName := ⟨RX2, "unmount", "(I)Z"⟩
def dkwX2_unmount_2 : List UInt8 := [180, 0, 11, 27, 50, 3, 181, 0, 99, 28, 172]
abbrev dktX2_unmount_2 : List UInt8 := dkwX2_unmount_2 ++ []
def dkwX2_unmount_1 : List UInt8 := [185, 0, 57, 2, 0, 192, 0, 61, 2, 181, 0, 92, 42, 180, 0, 11, 27, 50, 2, 181, 0, 73, 42]
abbrev dktX2_unmount_1 : List UInt8 := dkwX2_unmount_1 ++ dktX2_unmount_2
def dkwX2_unmount_0 : List UInt8 := [42, 27, 182, 0, 95, 61, 28, 153, 0, 48, 42, 180, 0, 20, 42, 180, 0, 11, 27, 50, 180, 0, 73]
abbrev dktX2_unmount_0 : List UInt8 := dkwX2_unmount_0 ++ dktX2_unmount_1
theorem dksX2_unmount_0 : cX2_unmount.data.toList.drop 0 = dktX2_unmount_0 := by decide +kernel
theorem dksX2_unmount_1 : cX2_unmount.data.toList.drop 23 = dktX2_unmount_1 := dk_seg dksX2_unmount_0 23 rfl rfl
theorem dksX2_unmount_2 : cX2_unmount.data.toList.drop 46 = dktX2_unmount_2 := dk_seg dksX2_unmount_1 23 rfl rfl
theorem dX2_unmount_0 : decode cX2_unmount 0 = .ok (.aload_n 0, 1) := dk_42 (dk_at dksX2_unmount_0 0 rfl rfl)
theorem dX2_unmount_1 : decode cX2_unmount 1 = .ok (.iload_n 1, 1) := dk_27 (dk_at dksX2_unmount_0 1 rfl rfl)
theorem dX2_unmount_2 : decode cX2_unmount 2 = .ok (.invokevirtual 95, 3) := dk_182 0 95 (dk_at dksX2_unmount_0 2 rfl rfl)
theorem dX2_unmount_5 : decode cX2_unmount 5 = .ok (.istore_n 2, 1) := dk_61 (dk_at dksX2_unmount_0 5 rfl rfl)
theorem dX2_unmount_6 : decode cX2_unmount 6 = .ok (.iload_n 2, 1) := dk_28 (dk_at dksX2_unmount_0 6 rfl rfl)
theorem dX2_unmount_7 : decode cX2_unmount 7 = .ok (.ifCond .eq 48, 3) := dk_153 0 48 (dk_at dksX2_unmount_0 7 rfl rfl)
theorem dX2_unmount_10 : decode cX2_unmount 10 = .ok (.aload_n 0, 1) := dk_42 (dk_at dksX2_unmount_0 10 rfl rfl)
theorem dX2_unmount_11 : decode cX2_unmount 11 = .ok (.getfield 20, 3) := dk_180 0 20 (dk_at dksX2_unmount_0 11 rfl rfl)
theorem dX2_unmount_14 : decode cX2_unmount 14 = .ok (.aload_n 0, 1) := dk_42 (dk_at dksX2_unmount_0 14 rfl rfl)
theorem dX2_unmount_15 : decode cX2_unmount 15 = .ok (.getfield 11, 3) := dk_180 0 11 (dk_at dksX2_unmount_0 15 rfl rfl)
theorem dX2_unmount_18 : decode cX2_unmount 18 = .ok (.iload_n 1, 1) := dk_27 (dk_at dksX2_unmount_0 18 rfl rfl)
theorem dX2_unmount_19 : decode cX2_unmount 19 = .ok (.aaload, 1) := dk_50 (dk_at dksX2_unmount_0 19 rfl rfl)
theorem dX2_unmount_20 : decode cX2_unmount 20 = .ok (.getfield 73, 3) := dk_180 0 73 (dk_at dksX2_unmount_0 20 rfl rfl)
theorem dX2_unmount_23 : decode cX2_unmount 23 = .ok (.invokeinterface 57 2, 5) := by decide +kernel
theorem dX2_unmount_28 : decode cX2_unmount 28 = .ok (.checkcast 61, 3) := dk_192 0 61 (dk_at dksX2_unmount_1 5 rfl rfl)
theorem dX2_unmount_31 : decode cX2_unmount 31 = .ok (.iconst (-1), 1) := dk_2 (dk_at dksX2_unmount_1 8 rfl rfl)
theorem dX2_unmount_32 : decode cX2_unmount 32 = .ok (.putfield 92, 3) := dk_181 0 92 (dk_at dksX2_unmount_1 9 rfl rfl)
theorem dX2_unmount_35 : decode cX2_unmount 35 = .ok (.aload_n 0, 1) := dk_42 (dk_at dksX2_unmount_1 12 rfl rfl)
theorem dX2_unmount_36 : decode cX2_unmount 36 = .ok (.getfield 11, 3) := dk_180 0 11 (dk_at dksX2_unmount_1 13 rfl rfl)
theorem dX2_unmount_39 : decode cX2_unmount 39 = .ok (.iload_n 1, 1) := dk_27 (dk_at dksX2_unmount_1 16 rfl rfl)
theorem dX2_unmount_40 : decode cX2_unmount 40 = .ok (.aaload, 1) := dk_50 (dk_at dksX2_unmount_1 17 rfl rfl)
theorem dX2_unmount_41 : decode cX2_unmount 41 = .ok (.iconst (-1), 1) := dk_2 (dk_at dksX2_unmount_1 18 rfl rfl)
theorem dX2_unmount_42 : decode cX2_unmount 42 = .ok (.putfield 73, 3) := dk_181 0 73 (dk_at dksX2_unmount_1 19 rfl rfl)
theorem dX2_unmount_45 : decode cX2_unmount 45 = .ok (.aload_n 0, 1) := dk_42 (dk_at dksX2_unmount_1 22 rfl rfl)
theorem dX2_unmount_46 : decode cX2_unmount 46 = .ok (.getfield 11, 3) := dk_180 0 11 (dk_at dksX2_unmount_2 0 rfl rfl)
theorem dX2_unmount_49 : decode cX2_unmount 49 = .ok (.iload_n 1, 1) := dk_27 (dk_at dksX2_unmount_2 3 rfl rfl)
theorem dX2_unmount_50 : decode cX2_unmount 50 = .ok (.aaload, 1) := dk_50 (dk_at dksX2_unmount_2 4 rfl rfl)
theorem dX2_unmount_51 : decode cX2_unmount 51 = .ok (.iconst 0, 1) := dk_3 (dk_at dksX2_unmount_2 5 rfl rfl)
theorem dX2_unmount_52 : decode cX2_unmount 52 = .ok (.putfield 99, 3) := dk_181 0 99 (dk_at dksX2_unmount_2 6 rfl rfl)
theorem dX2_unmount_55 : decode cX2_unmount 55 = .ok (.iload_n 2, 1) := dk_28 (dk_at dksX2_unmount_2 9 rfl rfl)
theorem dX2_unmount_56 : decode cX2_unmount 56 = .ok (.ireturn, 1) := dk_172 (dk_at dksX2_unmount_2 10 rfl rfl)
abbrev cX2_seek : ByteArray := prog_9_method_8_code
def yX2_seek : MethodName := ⟨RX2, "seek", "(II)Z"⟩
def dkwX2_seek_0 : List UInt8 := [42, 27, 182, 0, 95, 62, 29, 153, 0, 13, 42, 180, 0, 11, 27, 50, 28, 181, 0, 99, 29, 172]
abbrev dktX2_seek_0 : List UInt8 := dkwX2_seek_0 ++ []
theorem dksX2_seek_0 : cX2_seek.data.toList.drop 0 = dktX2_seek_0 := by decide +kernel
theorem dX2_seek_0 : decode cX2_seek 0 = .ok (.aload_n 0, 1) := dk_42 (dk_at dksX2_seek_0 0 rfl rfl)
theorem dX2_seek_1 : decode cX2_seek 1 = .ok (.iload_n 1, 1) := dk_27 (dk_at dksX2_seek_0 1 rfl rfl)
theorem dX2_seek_2 : decode cX2_seek 2 = .ok (.invokevirtual 95, 3) := dk_182 0 95 (dk_at dksX2_seek_0 2 rfl rfl)
theorem dX2_seek_5 : decode cX2_seek 5 = .ok (.istore_n 3, 1) := dk_62 (dk_at dksX2_seek_0 5 rfl rfl)
theorem dX2_seek_6 : decode cX2_seek 6 = .ok (.iload_n 3, 1) := dk_29 (dk_at dksX2_seek_0 6 rfl rfl)
theorem dX2_seek_7 : decode cX2_seek 7 = .ok (.ifCond .eq 13, 3) := dk_153 0 13 (dk_at dksX2_seek_0 7 rfl rfl)
theorem dX2_seek_10 : decode cX2_seek 10 = .ok (.aload_n 0, 1) := dk_42 (dk_at dksX2_seek_0 10 rfl rfl)
theorem dX2_seek_11 : decode cX2_seek 11 = .ok (.getfield 11, 3) := dk_180 0 11 (dk_at dksX2_seek_0 11 rfl rfl)
theorem dX2_seek_14 : decode cX2_seek 14 = .ok (.iload_n 1, 1) := dk_27 (dk_at dksX2_seek_0 14 rfl rfl)
theorem dX2_seek_15 : decode cX2_seek 15 = .ok (.aaload, 1) := dk_50 (dk_at dksX2_seek_0 15 rfl rfl)
theorem dX2_seek_16 : decode cX2_seek 16 = .ok (.iload_n 2, 1) := dk_28 (dk_at dksX2_seek_0 16 rfl rfl)
theorem dX2_seek_17 : decode cX2_seek 17 = .ok (.putfield 99, 3) := dk_181 0 99 (dk_at dksX2_seek_0 17 rfl rfl)
theorem dX2_seek_20 : decode cX2_seek 20 = .ok (.iload_n 3, 1) := dk_29 (dk_at dksX2_seek_0 20 rfl rfl)
theorem dX2_seek_21 : decode cX2_seek 21 = .ok (.ireturn, 1) := dk_172 (dk_at dksX2_seek_0 21 rfl rfl)
abbrev cX2_write : ByteArray := prog_9_method_26_code
def yX2_write : MethodName := ⟨RX2, "write", "(III)Z"⟩
def dkwX2_write_2 : List UInt8 := [182, 0, 197, 23, 5, 182, 0, 214, 42, 27, 28, 182, 0, 218, 21, 4, 172]
abbrev dktX2_write_2 : List UInt8 := dkwX2_write_2 ++ []
def dkwX2_write_1 : List UInt8 := [182, 0, 163, 56, 5, 42, 27, 28, 182, 0, 180, 42, 180, 0, 11, 27, 50, 180, 0, 99, 29, 42, 27, 28]
abbrev dktX2_write_1 : List UInt8 := dkwX2_write_1 ++ dktX2_write_2
def dkwX2_write_0 : List UInt8 := [42, 27, 182, 0, 95, 54, 4, 21, 4, 153, 0, 52, 42, 180, 0, 11, 27, 50, 28, 182, 0, 159, 12]
abbrev dktX2_write_0 : List UInt8 := dkwX2_write_0 ++ dktX2_write_1
theorem dksX2_write_0 : cX2_write.data.toList.drop 0 = dktX2_write_0 := by decide +kernel
theorem dksX2_write_1 : cX2_write.data.toList.drop 23 = dktX2_write_1 := dk_seg dksX2_write_0 23 rfl rfl
theorem dksX2_write_2 : cX2_write.data.toList.drop 47 = dktX2_write_2 := dk_seg dksX2_write_1 24 rfl rfl
theorem dX2_write_0 : decode cX2_write 0 = .ok (.aload_n 0, 1) := dk_42 (dk_at dksX2_write_0 0 rfl rfl)
theorem dX2_write_1 : decode cX2_write 1 = .ok (.iload_n 1, 1) := dk_27 (dk_at dksX2_write_0 1 rfl rfl)
theorem dX2_write_2 : decode cX2_write 2 = .ok (.invokevirtual 95, 3) := dk_182 0 95 (dk_at dksX2_write_0 2 rfl rfl)
theorem dX2_write_5 : decode cX2_write 5 = .ok (.istore 4, 2) := dk_54 4 (dk_at dksX2_write_0 5 rfl rfl)
theorem dX2_write_7 : decode cX2_write 7 = .ok (.iload 4, 2) := dk_21 4 (dk_at dksX2_write_0 7 rfl rfl)
theorem dX2_write_9 : decode cX2_write 9 = .ok (.ifCond .eq 52, 3) := dk_153 0 52 (dk_at dksX2_write_0 9 rfl rfl)
theorem dX2_write_12 : decode cX2_write 12 = .ok (.aload_n 0, 1) := dk_42 (dk_at dksX2_write_0 12 rfl rfl)
theorem dX2_write_13 : decode cX2_write 13 = .ok (.getfield 11, 3) := dk_180 0 11 (dk_at dksX2_write_0 13 rfl rfl)
theorem dX2_write_16 : decode cX2_write 16 = .ok (.iload_n 1, 1) := dk_27 (dk_at dksX2_write_0 16 rfl rfl)
theorem dX2_write_17 : decode cX2_write 17 = .ok (.aaload, 1) := dk_50 (dk_at dksX2_write_0 17 rfl rfl)
theorem dX2_write_18 : decode cX2_write 18 = .ok (.iload_n 2, 1) := dk_28 (dk_at dksX2_write_0 18 rfl rfl)
theorem dX2_write_19 : decode cX2_write 19 = .ok (.invokevirtual 159, 3) := dk_182 0 159 (dk_at dksX2_write_0 19 rfl rfl)
theorem dX2_write_22 : decode cX2_write 22 = .ok (.fconst 1, 1) := dk_12 (dk_at dksX2_write_0 22 rfl rfl)
theorem dX2_write_23 : decode cX2_write 23 = .ok (.invokevirtual 163, 3) := dk_182 0 163 (dk_at dksX2_write_1 0 rfl rfl)
theorem dX2_write_26 : decode cX2_write 26 = .ok (.fstore 5, 2) := dk_56 5 (dk_at dksX2_write_1 3 rfl rfl)
theorem dX2_write_28 : decode cX2_write 28 = .ok (.aload_n 0, 1) := dk_42 (dk_at dksX2_write_1 5 rfl rfl)
theorem dX2_write_29 : decode cX2_write 29 = .ok (.iload_n 1, 1) := dk_27 (dk_at dksX2_write_1 6 rfl rfl)
theorem dX2_write_30 : decode cX2_write 30 = .ok (.iload_n 2, 1) := dk_28 (dk_at dksX2_write_1 7 rfl rfl)
theorem dX2_write_31 : decode cX2_write 31 = .ok (.invokevirtual 180, 3) := dk_182 0 180 (dk_at dksX2_write_1 8 rfl rfl)
theorem dX2_write_34 : decode cX2_write 34 = .ok (.aload_n 0, 1) := dk_42 (dk_at dksX2_write_1 11 rfl rfl)
theorem dX2_write_35 : decode cX2_write 35 = .ok (.getfield 11, 3) := dk_180 0 11 (dk_at dksX2_write_1 12 rfl rfl)
theorem dX2_write_38 : decode cX2_write 38 = .ok (.iload_n 1, 1) := dk_27 (dk_at dksX2_write_1 15 rfl rfl)
theorem dX2_write_39 : decode cX2_write 39 = .ok (.aaload, 1) := dk_50 (dk_at dksX2_write_1 16 rfl rfl)
theorem dX2_write_40 : decode cX2_write 40 = .ok (.getfield 99, 3) := dk_180 0 99 (dk_at dksX2_write_1 17 rfl rfl)
theorem dX2_write_43 : decode cX2_write 43 = .ok (.iload_n 3, 1) := dk_29 (dk_at dksX2_write_1 20 rfl rfl)
theorem dX2_write_44 : decode cX2_write 44 = .ok (.aload_n 0, 1) := dk_42 (dk_at dksX2_write_1 21 rfl rfl)
theorem dX2_write_45 : decode cX2_write 45 = .ok (.iload_n 1, 1) := dk_27 (dk_at dksX2_write_1 22 rfl rfl)
theorem dX2_write_46 : decode cX2_write 46 = .ok (.iload_n 2, 1) := dk_28 (dk_at dksX2_write_1 23 rfl rfl)
theorem dX2_write_47 : decode cX2_write 47 = .ok (.invokevirtual 197, 3) := dk_182 0 197 (dk_at dksX2_write_2 0 rfl rfl)
theorem dX2_write_50 : decode cX2_write 50 = .ok (.fload 5, 2) := dk_23 5 (dk_at dksX2_write_2 3 rfl rfl)
theorem dX2_write_52 : decode cX2_write 52 = .ok (.invokevirtual 214, 3) := dk_182 0 214 (dk_at dksX2_write_2 5 rfl rfl)
theorem dX2_write_55 : decode cX2_write 55 = .ok (.aload_n 0, 1) := dk_42 (dk_at dksX2_write_2 8 rfl rfl)
theorem dX2_write_56 : decode cX2_write 56 = .ok (.iload_n 1, 1) := dk_27 (dk_at dksX2_write_2 9 rfl rfl)
theorem dX2_write_57 : decode cX2_write 57 = .ok (.iload_n 2, 1) := dk_28 (dk_at dksX2_write_2 10 rfl rfl)
theorem dX2_write_58 : decode cX2_write 58 = .ok (.invokevirtual 218, 3) := dk_182 0 218 (dk_at dksX2_write_2 11 rfl rfl)
theorem dX2_write_61 : decode cX2_write 61 = .ok (.iload 4, 2) := dk_21 4 (dk_at dksX2_write_2 14 rfl rfl)
theorem dX2_write_63 : decode cX2_write 63 = .ok (.ireturn, 1) := dk_172 (dk_at dksX2_write_2 16 rfl rfl)
abbrev cX2_surface : ByteArray := prog_9_method_17_code
def yX2_surface : MethodName := ⟨RX2, "surface", "(II)LDiskPacks$Surface;"⟩
def dkwX2_surface_1 : List UInt8 := [28, 50, 176]
abbrev dktX2_surface_1 : List UInt8 := dkwX2_surface_1 ++ []
def dkwX2_surface_0 : List UInt8 := [42, 180, 0, 20, 42, 180, 0, 11, 27, 50, 180, 0, 73, 185, 0, 57, 2, 0, 192, 0, 61, 180, 0, 149]
abbrev dktX2_surface_0 : List UInt8 := dkwX2_surface_0 ++ dktX2_surface_1
theorem dksX2_surface_0 : cX2_surface.data.toList.drop 0 = dktX2_surface_0 := by decide +kernel
theorem dksX2_surface_1 : cX2_surface.data.toList.drop 24 = dktX2_surface_1 := dk_seg dksX2_surface_0 24 rfl rfl
theorem dX2_surface_0 : decode cX2_surface 0 = .ok (.aload_n 0, 1) := dk_42 (dk_at dksX2_surface_0 0 rfl rfl)
theorem dX2_surface_1 : decode cX2_surface 1 = .ok (.getfield 20, 3) := dk_180 0 20 (dk_at dksX2_surface_0 1 rfl rfl)
theorem dX2_surface_4 : decode cX2_surface 4 = .ok (.aload_n 0, 1) := dk_42 (dk_at dksX2_surface_0 4 rfl rfl)
theorem dX2_surface_5 : decode cX2_surface 5 = .ok (.getfield 11, 3) := dk_180 0 11 (dk_at dksX2_surface_0 5 rfl rfl)
theorem dX2_surface_8 : decode cX2_surface 8 = .ok (.iload_n 1, 1) := dk_27 (dk_at dksX2_surface_0 8 rfl rfl)
theorem dX2_surface_9 : decode cX2_surface 9 = .ok (.aaload, 1) := dk_50 (dk_at dksX2_surface_0 9 rfl rfl)
theorem dX2_surface_10 : decode cX2_surface 10 = .ok (.getfield 73, 3) := dk_180 0 73 (dk_at dksX2_surface_0 10 rfl rfl)
theorem dX2_surface_13 : decode cX2_surface 13 = .ok (.invokeinterface 57 2, 5) := by decide +kernel
theorem dX2_surface_18 : decode cX2_surface 18 = .ok (.checkcast 61, 3) := dk_192 0 61 (dk_at dksX2_surface_0 18 rfl rfl)
theorem dX2_surface_21 : decode cX2_surface 21 = .ok (.getfield 149, 3) := dk_180 0 149 (dk_at dksX2_surface_0 21 rfl rfl)
theorem dX2_surface_24 : decode cX2_surface 24 = .ok (.iload_n 2, 1) := dk_28 (dk_at dksX2_surface_1 0 rfl rfl)
theorem dX2_surface_25 : decode cX2_surface 25 = .ok (.aaload, 1) := dk_50 (dk_at dksX2_surface_1 1 rfl rfl)
theorem dX2_surface_26 : decode cX2_surface 26 = .ok (.areturn, 1) := dk_176 (dk_at dksX2_surface_1 2 rfl rfl)
abbrev cX2_place : ByteArray := prog_9_method_16_code
def yX2_place : MethodName := ⟨RX2, "place", "(II)I"⟩
def dkwX2_place_1 : List UInt8 := [172]
abbrev dktX2_place_1 : List UInt8 := dkwX2_place_1 ++ []
def dkwX2_place_0 : List UInt8 := [42, 27, 28, 42, 180, 0, 11, 27, 50, 180, 0, 73, 42, 180, 0, 11, 27, 50, 180, 0, 99, 182, 0, 148]
abbrev dktX2_place_0 : List UInt8 := dkwX2_place_0 ++ dktX2_place_1
theorem dksX2_place_0 : cX2_place.data.toList.drop 0 = dktX2_place_0 := by decide +kernel
theorem dksX2_place_1 : cX2_place.data.toList.drop 24 = dktX2_place_1 := dk_seg dksX2_place_0 24 rfl rfl
theorem dX2_place_0 : decode cX2_place 0 = .ok (.aload_n 0, 1) := dk_42 (dk_at dksX2_place_0 0 rfl rfl)
theorem dX2_place_1 : decode cX2_place 1 = .ok (.iload_n 1, 1) := dk_27 (dk_at dksX2_place_0 1 rfl rfl)
theorem dX2_place_2 : decode cX2_place 2 = .ok (.iload_n 2, 1) := dk_28 (dk_at dksX2_place_0 2 rfl rfl)
theorem dX2_place_3 : decode cX2_place 3 = .ok (.aload_n 0, 1) := dk_42 (dk_at dksX2_place_0 3 rfl rfl)
theorem dX2_place_4 : decode cX2_place 4 = .ok (.getfield 11, 3) := dk_180 0 11 (dk_at dksX2_place_0 4 rfl rfl)
theorem dX2_place_7 : decode cX2_place 7 = .ok (.iload_n 1, 1) := dk_27 (dk_at dksX2_place_0 7 rfl rfl)
theorem dX2_place_8 : decode cX2_place 8 = .ok (.aaload, 1) := dk_50 (dk_at dksX2_place_0 8 rfl rfl)
theorem dX2_place_9 : decode cX2_place 9 = .ok (.getfield 73, 3) := dk_180 0 73 (dk_at dksX2_place_0 9 rfl rfl)
theorem dX2_place_12 : decode cX2_place 12 = .ok (.aload_n 0, 1) := dk_42 (dk_at dksX2_place_0 12 rfl rfl)
theorem dX2_place_13 : decode cX2_place 13 = .ok (.getfield 11, 3) := dk_180 0 11 (dk_at dksX2_place_0 13 rfl rfl)
theorem dX2_place_16 : decode cX2_place 16 = .ok (.iload_n 1, 1) := dk_27 (dk_at dksX2_place_0 16 rfl rfl)
theorem dX2_place_17 : decode cX2_place 17 = .ok (.aaload, 1) := dk_50 (dk_at dksX2_place_0 17 rfl rfl)
theorem dX2_place_18 : decode cX2_place 18 = .ok (.getfield 99, 3) := dk_180 0 99 (dk_at dksX2_place_0 18 rfl rfl)
theorem dX2_place_21 : decode cX2_place 21 = .ok (.invokevirtual 148, 3) := dk_182 0 148 (dk_at dksX2_place_0 21 rfl rfl)
theorem dX2_place_24 : decode cX2_place 24 = .ok (.ireturn, 1) := dk_172 (dk_at dksX2_place_1 0 rfl rfl)
abbrev cX2_place_2 : ByteArray := prog_9_method_15_code
def yX2_place_2 : MethodName := ⟨RX2, "place", "(IIII)I"⟩
def dkwX2_place_2_1 : List UInt8 := [180, 0, 141, 182, 0, 144, 172]
abbrev dktX2_place_2_1 : List UInt8 := dkwX2_place_2_1 ++ []
def dkwX2_place_2_0 : List UInt8 := [42, 180, 0, 11, 27, 50, 28, 29, 21, 4, 42, 180, 0, 20, 29, 185, 0, 57, 2, 0, 192, 0, 61]
abbrev dktX2_place_2_0 : List UInt8 := dkwX2_place_2_0 ++ dktX2_place_2_1
theorem dksX2_place_2_0 : cX2_place_2.data.toList.drop 0 = dktX2_place_2_0 := by decide +kernel
theorem dksX2_place_2_1 : cX2_place_2.data.toList.drop 23 = dktX2_place_2_1 := dk_seg dksX2_place_2_0 23 rfl rfl
theorem dX2_place_2_0 : decode cX2_place_2 0 = .ok (.aload_n 0, 1) := dk_42 (dk_at dksX2_place_2_0 0 rfl rfl)
theorem dX2_place_2_1 : decode cX2_place_2 1 = .ok (.getfield 11, 3) := dk_180 0 11 (dk_at dksX2_place_2_0 1 rfl rfl)
theorem dX2_place_2_4 : decode cX2_place_2 4 = .ok (.iload_n 1, 1) := dk_27 (dk_at dksX2_place_2_0 4 rfl rfl)
theorem dX2_place_2_5 : decode cX2_place_2 5 = .ok (.aaload, 1) := dk_50 (dk_at dksX2_place_2_0 5 rfl rfl)
theorem dX2_place_2_6 : decode cX2_place_2 6 = .ok (.iload_n 2, 1) := dk_28 (dk_at dksX2_place_2_0 6 rfl rfl)
theorem dX2_place_2_7 : decode cX2_place_2 7 = .ok (.iload_n 3, 1) := dk_29 (dk_at dksX2_place_2_0 7 rfl rfl)
theorem dX2_place_2_8 : decode cX2_place_2 8 = .ok (.iload 4, 2) := dk_21 4 (dk_at dksX2_place_2_0 8 rfl rfl)
theorem dX2_place_2_10 : decode cX2_place_2 10 = .ok (.aload_n 0, 1) := dk_42 (dk_at dksX2_place_2_0 10 rfl rfl)
theorem dX2_place_2_11 : decode cX2_place_2 11 = .ok (.getfield 20, 3) := dk_180 0 20 (dk_at dksX2_place_2_0 11 rfl rfl)
theorem dX2_place_2_14 : decode cX2_place_2 14 = .ok (.iload_n 3, 1) := dk_29 (dk_at dksX2_place_2_0 14 rfl rfl)
theorem dX2_place_2_15 : decode cX2_place_2 15 = .ok (.invokeinterface 57 2, 5) := by decide +kernel
theorem dX2_place_2_20 : decode cX2_place_2 20 = .ok (.checkcast 61, 3) := dk_192 0 61 (dk_at dksX2_place_2_0 20 rfl rfl)
theorem dX2_place_2_23 : decode cX2_place_2 23 = .ok (.getfield 141, 3) := dk_180 0 141 (dk_at dksX2_place_2_1 0 rfl rfl)
theorem dX2_place_2_26 : decode cX2_place_2 26 = .ok (.invokevirtual 144, 3) := dk_182 0 144 (dk_at dksX2_place_2_1 3 rfl rfl)
theorem dX2_place_2_29 : decode cX2_place_2 29 = .ok (.ireturn, 1) := dk_172 (dk_at dksX2_place_2_1 6 rfl rfl)
abbrev cX2_fly : ByteArray := prog_9_method_25_code
def yX2_fly : MethodName := ⟨RX2, "fly", "(II)V"⟩
def dkwX2_fly_3 : List UInt8 := [160, 0, 8, 25, 4, 182, 0, 213, 177]
abbrev dktX2_fly_3 : List UInt8 := dkwX2_fly_3 ++ []
def dkwX2_fly_2 : List UInt8 := [45, 180, 0, 204, 153, 0, 28, 25, 4, 89, 180, 0, 210, 4, 96, 181, 0, 210, 25, 4, 180, 0, 210, 6]
abbrev dktX2_fly_2 : List UInt8 := dkwX2_fly_2 ++ dktX2_fly_3
def dkwX2_fly_1 : List UInt8 := [153, 0, 24, 45, 4, 181, 0, 204, 45, 42, 180, 0, 11, 27, 50, 180, 0, 99, 182, 0, 207, 167, 0, 35]
abbrev dktX2_fly_1 : List UInt8 := dkwX2_fly_1 ++ dktX2_fly_2
def dkwX2_fly_0 : List UInt8 := [42, 27, 28, 182, 0, 180, 78, 42, 180, 0, 11, 27, 50, 28, 182, 0, 159, 58, 4, 25, 4, 180, 0, 203]
abbrev dktX2_fly_0 : List UInt8 := dkwX2_fly_0 ++ dktX2_fly_1
theorem dksX2_fly_0 : cX2_fly.data.toList.drop 0 = dktX2_fly_0 := by decide +kernel
theorem dksX2_fly_1 : cX2_fly.data.toList.drop 24 = dktX2_fly_1 := dk_seg dksX2_fly_0 24 rfl rfl
theorem dksX2_fly_2 : cX2_fly.data.toList.drop 48 = dktX2_fly_2 := dk_seg dksX2_fly_1 24 rfl rfl
theorem dksX2_fly_3 : cX2_fly.data.toList.drop 72 = dktX2_fly_3 := dk_seg dksX2_fly_2 24 rfl rfl
theorem dX2_fly_0 : decode cX2_fly 0 = .ok (.aload_n 0, 1) := dk_42 (dk_at dksX2_fly_0 0 rfl rfl)
theorem dX2_fly_1 : decode cX2_fly 1 = .ok (.iload_n 1, 1) := dk_27 (dk_at dksX2_fly_0 1 rfl rfl)
theorem dX2_fly_2 : decode cX2_fly 2 = .ok (.iload_n 2, 1) := dk_28 (dk_at dksX2_fly_0 2 rfl rfl)
theorem dX2_fly_3 : decode cX2_fly 3 = .ok (.invokevirtual 180, 3) := dk_182 0 180 (dk_at dksX2_fly_0 3 rfl rfl)
theorem dX2_fly_6 : decode cX2_fly 6 = .ok (.astore_n 3, 1) := dk_78 (dk_at dksX2_fly_0 6 rfl rfl)
theorem dX2_fly_7 : decode cX2_fly 7 = .ok (.aload_n 0, 1) := dk_42 (dk_at dksX2_fly_0 7 rfl rfl)
theorem dX2_fly_8 : decode cX2_fly 8 = .ok (.getfield 11, 3) := dk_180 0 11 (dk_at dksX2_fly_0 8 rfl rfl)
theorem dX2_fly_11 : decode cX2_fly 11 = .ok (.iload_n 1, 1) := dk_27 (dk_at dksX2_fly_0 11 rfl rfl)
theorem dX2_fly_12 : decode cX2_fly 12 = .ok (.aaload, 1) := dk_50 (dk_at dksX2_fly_0 12 rfl rfl)
theorem dX2_fly_13 : decode cX2_fly 13 = .ok (.iload_n 2, 1) := dk_28 (dk_at dksX2_fly_0 13 rfl rfl)
theorem dX2_fly_14 : decode cX2_fly 14 = .ok (.invokevirtual 159, 3) := dk_182 0 159 (dk_at dksX2_fly_0 14 rfl rfl)
theorem dX2_fly_17 : decode cX2_fly 17 = .ok (.astore 4, 2) := dk_58 4 (dk_at dksX2_fly_0 17 rfl rfl)
theorem dX2_fly_19 : decode cX2_fly 19 = .ok (.aload 4, 2) := dk_25 4 (dk_at dksX2_fly_0 19 rfl rfl)
theorem dX2_fly_21 : decode cX2_fly 21 = .ok (.getfield 203, 3) := dk_180 0 203 (dk_at dksX2_fly_0 21 rfl rfl)
theorem dX2_fly_24 : decode cX2_fly 24 = .ok (.ifCond .eq 24, 3) := dk_153 0 24 (dk_at dksX2_fly_1 0 rfl rfl)
theorem dX2_fly_27 : decode cX2_fly 27 = .ok (.aload_n 3, 1) := dk_45 (dk_at dksX2_fly_1 3 rfl rfl)
theorem dX2_fly_28 : decode cX2_fly 28 = .ok (.iconst 1, 1) := dk_4 (dk_at dksX2_fly_1 4 rfl rfl)
theorem dX2_fly_29 : decode cX2_fly 29 = .ok (.putfield 204, 3) := dk_181 0 204 (dk_at dksX2_fly_1 5 rfl rfl)
theorem dX2_fly_32 : decode cX2_fly 32 = .ok (.aload_n 3, 1) := dk_45 (dk_at dksX2_fly_1 8 rfl rfl)
theorem dX2_fly_33 : decode cX2_fly 33 = .ok (.aload_n 0, 1) := dk_42 (dk_at dksX2_fly_1 9 rfl rfl)
theorem dX2_fly_34 : decode cX2_fly 34 = .ok (.getfield 11, 3) := dk_180 0 11 (dk_at dksX2_fly_1 10 rfl rfl)
theorem dX2_fly_37 : decode cX2_fly 37 = .ok (.iload_n 1, 1) := dk_27 (dk_at dksX2_fly_1 13 rfl rfl)
theorem dX2_fly_38 : decode cX2_fly 38 = .ok (.aaload, 1) := dk_50 (dk_at dksX2_fly_1 14 rfl rfl)
theorem dX2_fly_39 : decode cX2_fly 39 = .ok (.getfield 99, 3) := dk_180 0 99 (dk_at dksX2_fly_1 15 rfl rfl)
theorem dX2_fly_42 : decode cX2_fly 42 = .ok (.invokevirtual 207, 3) := dk_182 0 207 (dk_at dksX2_fly_1 18 rfl rfl)
theorem dX2_fly_45 : decode cX2_fly 45 = .ok (.goto 35, 3) := dk_167 0 35 (dk_at dksX2_fly_1 21 rfl rfl)
theorem dX2_fly_48 : decode cX2_fly 48 = .ok (.aload_n 3, 1) := dk_45 (dk_at dksX2_fly_2 0 rfl rfl)
theorem dX2_fly_49 : decode cX2_fly 49 = .ok (.getfield 204, 3) := dk_180 0 204 (dk_at dksX2_fly_2 1 rfl rfl)
theorem dX2_fly_52 : decode cX2_fly 52 = .ok (.ifCond .eq 28, 3) := dk_153 0 28 (dk_at dksX2_fly_2 4 rfl rfl)
theorem dX2_fly_55 : decode cX2_fly 55 = .ok (.aload 4, 2) := dk_25 4 (dk_at dksX2_fly_2 7 rfl rfl)
theorem dX2_fly_57 : decode cX2_fly 57 = .ok (.dup, 1) := dk_89 (dk_at dksX2_fly_2 9 rfl rfl)
theorem dX2_fly_58 : decode cX2_fly 58 = .ok (.getfield 210, 3) := dk_180 0 210 (dk_at dksX2_fly_2 10 rfl rfl)
theorem dX2_fly_61 : decode cX2_fly 61 = .ok (.iconst 1, 1) := dk_4 (dk_at dksX2_fly_2 13 rfl rfl)
theorem dX2_fly_62 : decode cX2_fly 62 = .ok (.iadd, 1) := dk_96 (dk_at dksX2_fly_2 14 rfl rfl)
theorem dX2_fly_63 : decode cX2_fly 63 = .ok (.putfield 210, 3) := dk_181 0 210 (dk_at dksX2_fly_2 15 rfl rfl)
theorem dX2_fly_66 : decode cX2_fly 66 = .ok (.aload 4, 2) := dk_25 4 (dk_at dksX2_fly_2 18 rfl rfl)
theorem dX2_fly_68 : decode cX2_fly 68 = .ok (.getfield 210, 3) := dk_180 0 210 (dk_at dksX2_fly_2 20 rfl rfl)
theorem dX2_fly_71 : decode cX2_fly 71 = .ok (.iconst 3, 1) := dk_6 (dk_at dksX2_fly_2 23 rfl rfl)
theorem dX2_fly_72 : decode cX2_fly 72 = .ok (.if_icmp .ne 8, 3) := dk_160 0 8 (dk_at dksX2_fly_3 0 rfl rfl)
theorem dX2_fly_75 : decode cX2_fly 75 = .ok (.aload 4, 2) := dk_25 4 (dk_at dksX2_fly_3 3 rfl rfl)
theorem dX2_fly_77 : decode cX2_fly 77 = .ok (.invokevirtual 213, 3) := dk_182 0 213 (dk_at dksX2_fly_3 5 rfl rfl)
theorem dX2_fly_80 : decode cX2_fly 80 = .ok (.return_, 1) := dk_177 (dk_at dksX2_fly_3 8 rfl rfl)
abbrev cX2_read : ByteArray := prog_9_method_27_code
def yX2_read : MethodName := ⟨RX2, "read", "(II)I"⟩
def dkwX2_read_6 : List UInt8 := [184, 0, 173, 182, 0, 227, 42, 27, 28, 182, 0, 218, 21, 5, 172]
abbrev dktX2_read_6 : List UInt8 := dkwX2_read_6 ++ []
def dkwX2_read_5 : List UInt8 := [167, 0, 28, 42, 89, 180, 0, 41, 4, 96, 181, 0, 41, 42, 180, 0, 11, 27, 50, 29, 21, 4]
abbrev dktX2_read_5 : List UInt8 := dkwX2_read_5 ++ dktX2_read_6
def dkwX2_read_4 : List UInt8 := [29, 92, 46, 21, 6, 96, 79, 21, 4, 2, 160, 0, 16, 42, 89, 180, 0, 44, 4, 96, 181, 0, 44]
abbrev dktX2_read_4 : List UInt8 := dkwX2_read_4 ++ dktX2_read_5
def dkwX2_read_3 : List UInt8 := [4, 96, 167, 0, 5, 21, 4, 54, 6, 42, 180, 0, 28, 27, 92, 46, 21, 6, 96, 79, 42, 180, 0, 32]
abbrev dktX2_read_3 : List UInt8 := dkwX2_read_3 ++ dktX2_read_4
def dkwX2_read_2 : List UInt8 := [42, 180, 0, 11, 27, 50, 180, 0, 99, 46, 54, 5, 21, 4, 2, 160, 0, 14, 5, 42, 180, 0, 24, 104]
abbrev dktX2_read_2 : List UInt8 := dkwX2_read_2 ++ dktX2_read_3
def dkwX2_read_1 : List UInt8 := [182, 0, 222, 54, 4, 21, 4, 2, 160, 0, 7, 2, 167, 0, 22, 42, 27, 28, 182, 0, 180, 180, 0, 224]
abbrev dktX2_read_1 : List UInt8 := dkwX2_read_1 ++ dktX2_read_2
def dkwX2_read_0 : List UInt8 := [42, 27, 182, 0, 95, 154, 0, 5, 2, 172, 42, 180, 0, 11, 27, 50, 180, 0, 73, 62, 42, 27, 28]
abbrev dktX2_read_0 : List UInt8 := dkwX2_read_0 ++ dktX2_read_1
theorem dksX2_read_0 : cX2_read.data.toList.drop 0 = dktX2_read_0 := by decide +kernel
theorem dksX2_read_1 : cX2_read.data.toList.drop 23 = dktX2_read_1 := dk_seg dksX2_read_0 23 rfl rfl
theorem dksX2_read_2 : cX2_read.data.toList.drop 47 = dktX2_read_2 := dk_seg dksX2_read_1 24 rfl rfl
theorem dksX2_read_3 : cX2_read.data.toList.drop 71 = dktX2_read_3 := dk_seg dksX2_read_2 24 rfl rfl
theorem dksX2_read_4 : cX2_read.data.toList.drop 95 = dktX2_read_4 := dk_seg dksX2_read_3 24 rfl rfl
theorem dksX2_read_5 : cX2_read.data.toList.drop 118 = dktX2_read_5 := dk_seg dksX2_read_4 23 rfl rfl
theorem dksX2_read_6 : cX2_read.data.toList.drop 140 = dktX2_read_6 := dk_seg dksX2_read_5 22 rfl rfl
theorem dX2_read_0 : decode cX2_read 0 = .ok (.aload_n 0, 1) := dk_42 (dk_at dksX2_read_0 0 rfl rfl)
theorem dX2_read_1 : decode cX2_read 1 = .ok (.iload_n 1, 1) := dk_27 (dk_at dksX2_read_0 1 rfl rfl)
theorem dX2_read_2 : decode cX2_read 2 = .ok (.invokevirtual 95, 3) := dk_182 0 95 (dk_at dksX2_read_0 2 rfl rfl)
theorem dX2_read_5 : decode cX2_read 5 = .ok (.ifCond .ne 5, 3) := dk_154 0 5 (dk_at dksX2_read_0 5 rfl rfl)
theorem dX2_read_8 : decode cX2_read 8 = .ok (.iconst (-1), 1) := dk_2 (dk_at dksX2_read_0 8 rfl rfl)
theorem dX2_read_9 : decode cX2_read 9 = .ok (.ireturn, 1) := dk_172 (dk_at dksX2_read_0 9 rfl rfl)
theorem dX2_read_10 : decode cX2_read 10 = .ok (.aload_n 0, 1) := dk_42 (dk_at dksX2_read_0 10 rfl rfl)
theorem dX2_read_11 : decode cX2_read 11 = .ok (.getfield 11, 3) := dk_180 0 11 (dk_at dksX2_read_0 11 rfl rfl)
theorem dX2_read_14 : decode cX2_read 14 = .ok (.iload_n 1, 1) := dk_27 (dk_at dksX2_read_0 14 rfl rfl)
theorem dX2_read_15 : decode cX2_read 15 = .ok (.aaload, 1) := dk_50 (dk_at dksX2_read_0 15 rfl rfl)
theorem dX2_read_16 : decode cX2_read 16 = .ok (.getfield 73, 3) := dk_180 0 73 (dk_at dksX2_read_0 16 rfl rfl)
theorem dX2_read_19 : decode cX2_read 19 = .ok (.istore_n 3, 1) := dk_62 (dk_at dksX2_read_0 19 rfl rfl)
theorem dX2_read_20 : decode cX2_read 20 = .ok (.aload_n 0, 1) := dk_42 (dk_at dksX2_read_0 20 rfl rfl)
theorem dX2_read_21 : decode cX2_read 21 = .ok (.iload_n 1, 1) := dk_27 (dk_at dksX2_read_0 21 rfl rfl)
theorem dX2_read_22 : decode cX2_read 22 = .ok (.iload_n 2, 1) := dk_28 (dk_at dksX2_read_0 22 rfl rfl)
theorem dX2_read_23 : decode cX2_read 23 = .ok (.invokevirtual 222, 3) := dk_182 0 222 (dk_at dksX2_read_1 0 rfl rfl)
theorem dX2_read_26 : decode cX2_read 26 = .ok (.istore 4, 2) := dk_54 4 (dk_at dksX2_read_1 3 rfl rfl)
theorem dX2_read_28 : decode cX2_read 28 = .ok (.iload 4, 2) := dk_21 4 (dk_at dksX2_read_1 5 rfl rfl)
theorem dX2_read_30 : decode cX2_read 30 = .ok (.iconst (-1), 1) := dk_2 (dk_at dksX2_read_1 7 rfl rfl)
theorem dX2_read_31 : decode cX2_read 31 = .ok (.if_icmp .ne 7, 3) := dk_160 0 7 (dk_at dksX2_read_1 8 rfl rfl)
theorem dX2_read_34 : decode cX2_read 34 = .ok (.iconst (-1), 1) := dk_2 (dk_at dksX2_read_1 11 rfl rfl)
theorem dX2_read_35 : decode cX2_read 35 = .ok (.goto 22, 3) := dk_167 0 22 (dk_at dksX2_read_1 12 rfl rfl)
theorem dX2_read_38 : decode cX2_read 38 = .ok (.aload_n 0, 1) := dk_42 (dk_at dksX2_read_1 15 rfl rfl)
theorem dX2_read_39 : decode cX2_read 39 = .ok (.iload_n 1, 1) := dk_27 (dk_at dksX2_read_1 16 rfl rfl)
theorem dX2_read_40 : decode cX2_read 40 = .ok (.iload_n 2, 1) := dk_28 (dk_at dksX2_read_1 17 rfl rfl)
theorem dX2_read_41 : decode cX2_read 41 = .ok (.invokevirtual 180, 3) := dk_182 0 180 (dk_at dksX2_read_1 18 rfl rfl)
theorem dX2_read_44 : decode cX2_read 44 = .ok (.getfield 224, 3) := dk_180 0 224 (dk_at dksX2_read_1 21 rfl rfl)
theorem dX2_read_47 : decode cX2_read 47 = .ok (.aload_n 0, 1) := dk_42 (dk_at dksX2_read_2 0 rfl rfl)
theorem dX2_read_48 : decode cX2_read 48 = .ok (.getfield 11, 3) := dk_180 0 11 (dk_at dksX2_read_2 1 rfl rfl)
theorem dX2_read_51 : decode cX2_read 51 = .ok (.iload_n 1, 1) := dk_27 (dk_at dksX2_read_2 4 rfl rfl)
theorem dX2_read_52 : decode cX2_read 52 = .ok (.aaload, 1) := dk_50 (dk_at dksX2_read_2 5 rfl rfl)
theorem dX2_read_53 : decode cX2_read 53 = .ok (.getfield 99, 3) := dk_180 0 99 (dk_at dksX2_read_2 6 rfl rfl)
theorem dX2_read_56 : decode cX2_read 56 = .ok (.iaload, 1) := dk_46 (dk_at dksX2_read_2 9 rfl rfl)
theorem dX2_read_57 : decode cX2_read 57 = .ok (.istore 5, 2) := dk_54 5 (dk_at dksX2_read_2 10 rfl rfl)
theorem dX2_read_59 : decode cX2_read 59 = .ok (.iload 4, 2) := dk_21 4 (dk_at dksX2_read_2 12 rfl rfl)
theorem dX2_read_61 : decode cX2_read 61 = .ok (.iconst (-1), 1) := dk_2 (dk_at dksX2_read_2 14 rfl rfl)
theorem dX2_read_62 : decode cX2_read 62 = .ok (.if_icmp .ne 14, 3) := dk_160 0 14 (dk_at dksX2_read_2 15 rfl rfl)
theorem dX2_read_65 : decode cX2_read 65 = .ok (.iconst 2, 1) := dk_5 (dk_at dksX2_read_2 18 rfl rfl)
theorem dX2_read_66 : decode cX2_read 66 = .ok (.aload_n 0, 1) := dk_42 (dk_at dksX2_read_2 19 rfl rfl)
theorem dX2_read_67 : decode cX2_read 67 = .ok (.getfield 24, 3) := dk_180 0 24 (dk_at dksX2_read_2 20 rfl rfl)
theorem dX2_read_70 : decode cX2_read 70 = .ok (.imul, 1) := dk_104 (dk_at dksX2_read_2 23 rfl rfl)
theorem dX2_read_71 : decode cX2_read 71 = .ok (.iconst 1, 1) := dk_4 (dk_at dksX2_read_3 0 rfl rfl)
theorem dX2_read_72 : decode cX2_read 72 = .ok (.iadd, 1) := dk_96 (dk_at dksX2_read_3 1 rfl rfl)
theorem dX2_read_73 : decode cX2_read 73 = .ok (.goto 5, 3) := dk_167 0 5 (dk_at dksX2_read_3 2 rfl rfl)
theorem dX2_read_76 : decode cX2_read 76 = .ok (.iload 4, 2) := dk_21 4 (dk_at dksX2_read_3 5 rfl rfl)
theorem dX2_read_78 : decode cX2_read 78 = .ok (.istore 6, 2) := dk_54 6 (dk_at dksX2_read_3 7 rfl rfl)
theorem dX2_read_80 : decode cX2_read 80 = .ok (.aload_n 0, 1) := dk_42 (dk_at dksX2_read_3 9 rfl rfl)
theorem dX2_read_81 : decode cX2_read 81 = .ok (.getfield 28, 3) := dk_180 0 28 (dk_at dksX2_read_3 10 rfl rfl)
theorem dX2_read_84 : decode cX2_read 84 = .ok (.iload_n 1, 1) := dk_27 (dk_at dksX2_read_3 13 rfl rfl)
theorem dX2_read_85 : decode cX2_read 85 = .ok (.dup2, 1) := dk_92 (dk_at dksX2_read_3 14 rfl rfl)
theorem dX2_read_86 : decode cX2_read 86 = .ok (.iaload, 1) := dk_46 (dk_at dksX2_read_3 15 rfl rfl)
theorem dX2_read_87 : decode cX2_read 87 = .ok (.iload 6, 2) := dk_21 6 (dk_at dksX2_read_3 16 rfl rfl)
theorem dX2_read_89 : decode cX2_read 89 = .ok (.iadd, 1) := dk_96 (dk_at dksX2_read_3 18 rfl rfl)
theorem dX2_read_90 : decode cX2_read 90 = .ok (.iastore, 1) := dk_79 (dk_at dksX2_read_3 19 rfl rfl)
theorem dX2_read_91 : decode cX2_read 91 = .ok (.aload_n 0, 1) := dk_42 (dk_at dksX2_read_3 20 rfl rfl)
theorem dX2_read_92 : decode cX2_read 92 = .ok (.getfield 32, 3) := dk_180 0 32 (dk_at dksX2_read_3 21 rfl rfl)
theorem dX2_read_95 : decode cX2_read 95 = .ok (.iload_n 3, 1) := dk_29 (dk_at dksX2_read_4 0 rfl rfl)
theorem dX2_read_96 : decode cX2_read 96 = .ok (.dup2, 1) := dk_92 (dk_at dksX2_read_4 1 rfl rfl)
theorem dX2_read_97 : decode cX2_read 97 = .ok (.iaload, 1) := dk_46 (dk_at dksX2_read_4 2 rfl rfl)
theorem dX2_read_98 : decode cX2_read 98 = .ok (.iload 6, 2) := dk_21 6 (dk_at dksX2_read_4 3 rfl rfl)
theorem dX2_read_100 : decode cX2_read 100 = .ok (.iadd, 1) := dk_96 (dk_at dksX2_read_4 5 rfl rfl)
theorem dX2_read_101 : decode cX2_read 101 = .ok (.iastore, 1) := dk_79 (dk_at dksX2_read_4 6 rfl rfl)
theorem dX2_read_102 : decode cX2_read 102 = .ok (.iload 4, 2) := dk_21 4 (dk_at dksX2_read_4 7 rfl rfl)
theorem dX2_read_104 : decode cX2_read 104 = .ok (.iconst (-1), 1) := dk_2 (dk_at dksX2_read_4 9 rfl rfl)
theorem dX2_read_105 : decode cX2_read 105 = .ok (.if_icmp .ne 16, 3) := dk_160 0 16 (dk_at dksX2_read_4 10 rfl rfl)
theorem dX2_read_108 : decode cX2_read 108 = .ok (.aload_n 0, 1) := dk_42 (dk_at dksX2_read_4 13 rfl rfl)
theorem dX2_read_109 : decode cX2_read 109 = .ok (.dup, 1) := dk_89 (dk_at dksX2_read_4 14 rfl rfl)
theorem dX2_read_110 : decode cX2_read 110 = .ok (.getfield 44, 3) := dk_180 0 44 (dk_at dksX2_read_4 15 rfl rfl)
theorem dX2_read_113 : decode cX2_read 113 = .ok (.iconst 1, 1) := dk_4 (dk_at dksX2_read_4 18 rfl rfl)
theorem dX2_read_114 : decode cX2_read 114 = .ok (.iadd, 1) := dk_96 (dk_at dksX2_read_4 19 rfl rfl)
theorem dX2_read_115 : decode cX2_read 115 = .ok (.putfield 44, 3) := dk_181 0 44 (dk_at dksX2_read_4 20 rfl rfl)
theorem dX2_read_118 : decode cX2_read 118 = .ok (.goto 28, 3) := dk_167 0 28 (dk_at dksX2_read_5 0 rfl rfl)
theorem dX2_read_121 : decode cX2_read 121 = .ok (.aload_n 0, 1) := dk_42 (dk_at dksX2_read_5 3 rfl rfl)
theorem dX2_read_122 : decode cX2_read 122 = .ok (.dup, 1) := dk_89 (dk_at dksX2_read_5 4 rfl rfl)
theorem dX2_read_123 : decode cX2_read 123 = .ok (.getfield 41, 3) := dk_180 0 41 (dk_at dksX2_read_5 5 rfl rfl)
theorem dX2_read_126 : decode cX2_read 126 = .ok (.iconst 1, 1) := dk_4 (dk_at dksX2_read_5 8 rfl rfl)
theorem dX2_read_127 : decode cX2_read 127 = .ok (.iadd, 1) := dk_96 (dk_at dksX2_read_5 9 rfl rfl)
theorem dX2_read_128 : decode cX2_read 128 = .ok (.putfield 41, 3) := dk_181 0 41 (dk_at dksX2_read_5 10 rfl rfl)
theorem dX2_read_131 : decode cX2_read 131 = .ok (.aload_n 0, 1) := dk_42 (dk_at dksX2_read_5 13 rfl rfl)
theorem dX2_read_132 : decode cX2_read 132 = .ok (.getfield 11, 3) := dk_180 0 11 (dk_at dksX2_read_5 14 rfl rfl)
theorem dX2_read_135 : decode cX2_read 135 = .ok (.iload_n 1, 1) := dk_27 (dk_at dksX2_read_5 17 rfl rfl)
theorem dX2_read_136 : decode cX2_read 136 = .ok (.aaload, 1) := dk_50 (dk_at dksX2_read_5 18 rfl rfl)
theorem dX2_read_137 : decode cX2_read 137 = .ok (.iload_n 3, 1) := dk_29 (dk_at dksX2_read_5 19 rfl rfl)
theorem dX2_read_138 : decode cX2_read 138 = .ok (.iload 4, 2) := dk_21 4 (dk_at dksX2_read_5 20 rfl rfl)
theorem dX2_read_140 : decode cX2_read 140 = .ok (.invokestatic 173, 3) := dk_184 0 173 (dk_at dksX2_read_6 0 rfl rfl)
theorem dX2_read_143 : decode cX2_read 143 = .ok (.invokevirtual 227, 3) := dk_182 0 227 (dk_at dksX2_read_6 3 rfl rfl)
theorem dX2_read_146 : decode cX2_read 146 = .ok (.aload_n 0, 1) := dk_42 (dk_at dksX2_read_6 6 rfl rfl)
theorem dX2_read_147 : decode cX2_read 147 = .ok (.iload_n 1, 1) := dk_27 (dk_at dksX2_read_6 7 rfl rfl)
theorem dX2_read_148 : decode cX2_read 148 = .ok (.iload_n 2, 1) := dk_28 (dk_at dksX2_read_6 8 rfl rfl)
theorem dX2_read_149 : decode cX2_read 149 = .ok (.invokevirtual 218, 3) := dk_182 0 218 (dk_at dksX2_read_6 9 rfl rfl)
theorem dX2_read_152 : decode cX2_read 152 = .ok (.iload 5, 2) := dk_21 5 (dk_at dksX2_read_6 12 rfl rfl)
theorem dX2_read_154 : decode cX2_read 154 = .ok (.ireturn, 1) := dk_172 (dk_at dksX2_read_6 14 rfl rfl)
abbrev cX2_retries : ByteArray := prog_9_method_22_code
def yX2_retries : MethodName := ⟨RX2, "retries", "(II)I"⟩
def dkwX2_retries_1 : List UInt8 := [172]
abbrev dktX2_retries_1 : List UInt8 := dkwX2_retries_1 ++ []
def dkwX2_retries_0 : List UInt8 := [42, 27, 28, 42, 180, 0, 11, 27, 50, 180, 0, 73, 42, 180, 0, 11, 27, 50, 180, 0, 99, 182, 0, 177]
abbrev dktX2_retries_0 : List UInt8 := dkwX2_retries_0 ++ dktX2_retries_1
theorem dksX2_retries_0 : cX2_retries.data.toList.drop 0 = dktX2_retries_0 := by decide +kernel
theorem dksX2_retries_1 : cX2_retries.data.toList.drop 24 = dktX2_retries_1 := dk_seg dksX2_retries_0 24 rfl rfl
theorem dX2_retries_0 : decode cX2_retries 0 = .ok (.aload_n 0, 1) := dk_42 (dk_at dksX2_retries_0 0 rfl rfl)
theorem dX2_retries_1 : decode cX2_retries 1 = .ok (.iload_n 1, 1) := dk_27 (dk_at dksX2_retries_0 1 rfl rfl)
theorem dX2_retries_2 : decode cX2_retries 2 = .ok (.iload_n 2, 1) := dk_28 (dk_at dksX2_retries_0 2 rfl rfl)
theorem dX2_retries_3 : decode cX2_retries 3 = .ok (.aload_n 0, 1) := dk_42 (dk_at dksX2_retries_0 3 rfl rfl)
theorem dX2_retries_4 : decode cX2_retries 4 = .ok (.getfield 11, 3) := dk_180 0 11 (dk_at dksX2_retries_0 4 rfl rfl)
theorem dX2_retries_7 : decode cX2_retries 7 = .ok (.iload_n 1, 1) := dk_27 (dk_at dksX2_retries_0 7 rfl rfl)
theorem dX2_retries_8 : decode cX2_retries 8 = .ok (.aaload, 1) := dk_50 (dk_at dksX2_retries_0 8 rfl rfl)
theorem dX2_retries_9 : decode cX2_retries 9 = .ok (.getfield 73, 3) := dk_180 0 73 (dk_at dksX2_retries_0 9 rfl rfl)
theorem dX2_retries_12 : decode cX2_retries 12 = .ok (.aload_n 0, 1) := dk_42 (dk_at dksX2_retries_0 12 rfl rfl)
theorem dX2_retries_13 : decode cX2_retries 13 = .ok (.getfield 11, 3) := dk_180 0 11 (dk_at dksX2_retries_0 13 rfl rfl)
theorem dX2_retries_16 : decode cX2_retries 16 = .ok (.iload_n 1, 1) := dk_27 (dk_at dksX2_retries_0 16 rfl rfl)
theorem dX2_retries_17 : decode cX2_retries 17 = .ok (.aaload, 1) := dk_50 (dk_at dksX2_retries_0 17 rfl rfl)
theorem dX2_retries_18 : decode cX2_retries 18 = .ok (.getfield 99, 3) := dk_180 0 99 (dk_at dksX2_retries_0 18 rfl rfl)
theorem dX2_retries_21 : decode cX2_retries 21 = .ok (.invokevirtual 177, 3) := dk_182 0 177 (dk_at dksX2_retries_0 21 rfl rfl)
theorem dX2_retries_24 : decode cX2_retries 24 = .ok (.ireturn, 1) := dk_172 (dk_at dksX2_retries_1 0 rfl rfl)
abbrev cX2_retries_2 : ByteArray := prog_9_method_21_code
def yX2_retries_2 : MethodName := ⟨RX2, "retries", "(IIII)I"⟩
def dkwX2_retries_2_1 : List UInt8 := [184, 0, 173, 182, 0, 169, 18, 176, 149, 155, 0, 6, 21, 5, 172, 132, 5, 1, 167, 255, 219, 2, 172]
abbrev dktX2_retries_2_1 : List UInt8 := dkwX2_retries_2_1 ++ []
def dkwX2_retries_2_0 : List UInt8 := [3, 54, 5, 21, 5, 5, 42, 180, 0, 24, 104, 163, 0, 32, 42, 27, 28, 29, 21, 4, 21, 5]
abbrev dktX2_retries_2_0 : List UInt8 := dkwX2_retries_2_0 ++ dktX2_retries_2_1
theorem dksX2_retries_2_0 : cX2_retries_2.data.toList.drop 0 = dktX2_retries_2_0 := by decide +kernel
theorem dksX2_retries_2_1 : cX2_retries_2.data.toList.drop 22 = dktX2_retries_2_1 := dk_seg dksX2_retries_2_0 22 rfl rfl
theorem dX2_retries_2_0 : decode cX2_retries_2 0 = .ok (.iconst 0, 1) := dk_3 (dk_at dksX2_retries_2_0 0 rfl rfl)
theorem dX2_retries_2_1 : decode cX2_retries_2 1 = .ok (.istore 5, 2) := dk_54 5 (dk_at dksX2_retries_2_0 1 rfl rfl)
theorem dX2_retries_2_3 : decode cX2_retries_2 3 = .ok (.iload 5, 2) := dk_21 5 (dk_at dksX2_retries_2_0 3 rfl rfl)
theorem dX2_retries_2_5 : decode cX2_retries_2 5 = .ok (.iconst 2, 1) := dk_5 (dk_at dksX2_retries_2_0 5 rfl rfl)
theorem dX2_retries_2_6 : decode cX2_retries_2 6 = .ok (.aload_n 0, 1) := dk_42 (dk_at dksX2_retries_2_0 6 rfl rfl)
theorem dX2_retries_2_7 : decode cX2_retries_2 7 = .ok (.getfield 24, 3) := dk_180 0 24 (dk_at dksX2_retries_2_0 7 rfl rfl)
theorem dX2_retries_2_10 : decode cX2_retries_2 10 = .ok (.imul, 1) := dk_104 (dk_at dksX2_retries_2_0 10 rfl rfl)
theorem dX2_retries_2_11 : decode cX2_retries_2 11 = .ok (.if_icmp .gt 32, 3) := dk_163 0 32 (dk_at dksX2_retries_2_0 11 rfl rfl)
theorem dX2_retries_2_14 : decode cX2_retries_2 14 = .ok (.aload_n 0, 1) := dk_42 (dk_at dksX2_retries_2_0 14 rfl rfl)
theorem dX2_retries_2_15 : decode cX2_retries_2 15 = .ok (.iload_n 1, 1) := dk_27 (dk_at dksX2_retries_2_0 15 rfl rfl)
theorem dX2_retries_2_16 : decode cX2_retries_2 16 = .ok (.iload_n 2, 1) := dk_28 (dk_at dksX2_retries_2_0 16 rfl rfl)
theorem dX2_retries_2_17 : decode cX2_retries_2 17 = .ok (.iload_n 3, 1) := dk_29 (dk_at dksX2_retries_2_0 17 rfl rfl)
theorem dX2_retries_2_18 : decode cX2_retries_2 18 = .ok (.iload 4, 2) := dk_21 4 (dk_at dksX2_retries_2_0 18 rfl rfl)
theorem dX2_retries_2_20 : decode cX2_retries_2 20 = .ok (.iload 5, 2) := dk_21 5 (dk_at dksX2_retries_2_0 20 rfl rfl)
theorem dX2_retries_2_22 : decode cX2_retries_2 22 = .ok (.invokestatic 173, 3) := dk_184 0 173 (dk_at dksX2_retries_2_1 0 rfl rfl)
theorem dX2_retries_2_25 : decode cX2_retries_2 25 = .ok (.invokevirtual 169, 3) := dk_182 0 169 (dk_at dksX2_retries_2_1 3 rfl rfl)
theorem dX2_retries_2_28 : decode cX2_retries_2 28 = .ok (.ldc 176, 2) := dk_18 176 (dk_at dksX2_retries_2_1 6 rfl rfl)
theorem dX2_retries_2_30 : decode cX2_retries_2 30 = .ok (.fcmp .l, 1) := dk_149 (dk_at dksX2_retries_2_1 8 rfl rfl)
theorem dX2_retries_2_31 : decode cX2_retries_2 31 = .ok (.ifCond .lt 6, 3) := dk_155 0 6 (dk_at dksX2_retries_2_1 9 rfl rfl)
theorem dX2_retries_2_34 : decode cX2_retries_2 34 = .ok (.iload 5, 2) := dk_21 5 (dk_at dksX2_retries_2_1 12 rfl rfl)
theorem dX2_retries_2_36 : decode cX2_retries_2 36 = .ok (.ireturn, 1) := dk_172 (dk_at dksX2_retries_2_1 14 rfl rfl)
theorem dX2_retries_2_37 : decode cX2_retries_2 37 = .ok (.iinc 5 1, 3) := dk_132 5 1 (dk_at dksX2_retries_2_1 15 rfl rfl)
theorem dX2_retries_2_40 : decode cX2_retries_2 40 = .ok (.goto (-37), 3) := dk_167 255 219 (dk_at dksX2_retries_2_1 18 rfl rfl)
theorem dX2_retries_2_43 : decode cX2_retries_2 43 = .ok (.iconst (-1), 1) := dk_2 (dk_at dksX2_retries_2_1 21 rfl rfl)
theorem dX2_retries_2_44 : decode cX2_retries_2 44 = .ok (.ireturn, 1) := dk_172 (dk_at dksX2_retries_2_1 22 rfl rfl)
abbrev cX2_offset : ByteArray := prog_9_method_20_code
def yX2_offset : MethodName := ⟨RX2, "offset", "(I)I"⟩
def dkwX2_offset_0 : List UInt8 := [26, 4, 96, 5, 108, 8, 104, 60, 26, 5, 112, 4, 160, 0, 7, 27, 167, 0, 5, 27, 116, 172]
abbrev dktX2_offset_0 : List UInt8 := dkwX2_offset_0 ++ []
theorem dksX2_offset_0 : cX2_offset.data.toList.drop 0 = dktX2_offset_0 := by decide +kernel
theorem dX2_offset_0 : decode cX2_offset 0 = .ok (.iload_n 0, 1) := dk_26 (dk_at dksX2_offset_0 0 rfl rfl)
theorem dX2_offset_1 : decode cX2_offset 1 = .ok (.iconst 1, 1) := dk_4 (dk_at dksX2_offset_0 1 rfl rfl)
theorem dX2_offset_2 : decode cX2_offset 2 = .ok (.iadd, 1) := dk_96 (dk_at dksX2_offset_0 2 rfl rfl)
theorem dX2_offset_3 : decode cX2_offset 3 = .ok (.iconst 2, 1) := dk_5 (dk_at dksX2_offset_0 3 rfl rfl)
theorem dX2_offset_4 : decode cX2_offset 4 = .ok (.idiv, 1) := dk_108 (dk_at dksX2_offset_0 4 rfl rfl)
theorem dX2_offset_5 : decode cX2_offset 5 = .ok (.iconst 5, 1) := dk_8 (dk_at dksX2_offset_0 5 rfl rfl)
theorem dX2_offset_6 : decode cX2_offset 6 = .ok (.imul, 1) := dk_104 (dk_at dksX2_offset_0 6 rfl rfl)
theorem dX2_offset_7 : decode cX2_offset 7 = .ok (.istore_n 1, 1) := dk_60 (dk_at dksX2_offset_0 7 rfl rfl)
theorem dX2_offset_8 : decode cX2_offset 8 = .ok (.iload_n 0, 1) := dk_26 (dk_at dksX2_offset_0 8 rfl rfl)
theorem dX2_offset_9 : decode cX2_offset 9 = .ok (.iconst 2, 1) := dk_5 (dk_at dksX2_offset_0 9 rfl rfl)
theorem dX2_offset_10 : decode cX2_offset 10 = .ok (.irem, 1) := dk_112 (dk_at dksX2_offset_0 10 rfl rfl)
theorem dX2_offset_11 : decode cX2_offset 11 = .ok (.iconst 1, 1) := dk_4 (dk_at dksX2_offset_0 11 rfl rfl)
theorem dX2_offset_12 : decode cX2_offset 12 = .ok (.if_icmp .ne 7, 3) := dk_160 0 7 (dk_at dksX2_offset_0 12 rfl rfl)
theorem dX2_offset_15 : decode cX2_offset 15 = .ok (.iload_n 1, 1) := dk_27 (dk_at dksX2_offset_0 15 rfl rfl)
theorem dX2_offset_16 : decode cX2_offset 16 = .ok (.goto 5, 3) := dk_167 0 5 (dk_at dksX2_offset_0 16 rfl rfl)
theorem dX2_offset_19 : decode cX2_offset 19 = .ok (.iload_n 1, 1) := dk_27 (dk_at dksX2_offset_0 19 rfl rfl)
theorem dX2_offset_20 : decode cX2_offset 20 = .ok (.ineg, 1) := dk_116 (dk_at dksX2_offset_0 20 rfl rfl)
theorem dX2_offset_21 : decode cX2_offset 21 = .ok (.ireturn, 1) := dk_172 (dk_at dksX2_offset_0 21 rfl rfl)
abbrev cX2_signal : ByteArray := prog_9_method_18_code
def yX2_signal : MethodName := ⟨RX2, "signal", "(IIIII)F"⟩
def dkwX2_signal_2 : List UInt8 := [182, 0, 159, 23, 7, 182, 0, 163, 174]
abbrev dktX2_signal_2 : List UInt8 := dkwX2_signal_2 ++ []
def dkwX2_signal_1 : List UInt8 := [42, 27, 28, 29, 21, 4, 182, 0, 148, 21, 5, 96, 182, 0, 153, 56, 7, 42, 180, 0, 11, 27, 50, 28]
abbrev dktX2_signal_1 : List UInt8 := dkwX2_signal_1 ++ dktX2_signal_2
def dkwX2_signal_0 : List UInt8 := [42, 180, 0, 20, 29, 185, 0, 57, 2, 0, 192, 0, 61, 180, 0, 149, 28, 50, 58, 6, 25, 6, 21, 4]
abbrev dktX2_signal_0 : List UInt8 := dkwX2_signal_0 ++ dktX2_signal_1
theorem dksX2_signal_0 : cX2_signal.data.toList.drop 0 = dktX2_signal_0 := by decide +kernel
theorem dksX2_signal_1 : cX2_signal.data.toList.drop 24 = dktX2_signal_1 := dk_seg dksX2_signal_0 24 rfl rfl
theorem dksX2_signal_2 : cX2_signal.data.toList.drop 48 = dktX2_signal_2 := dk_seg dksX2_signal_1 24 rfl rfl
theorem dX2_signal_0 : decode cX2_signal 0 = .ok (.aload_n 0, 1) := dk_42 (dk_at dksX2_signal_0 0 rfl rfl)
theorem dX2_signal_1 : decode cX2_signal 1 = .ok (.getfield 20, 3) := dk_180 0 20 (dk_at dksX2_signal_0 1 rfl rfl)
theorem dX2_signal_4 : decode cX2_signal 4 = .ok (.iload_n 3, 1) := dk_29 (dk_at dksX2_signal_0 4 rfl rfl)
theorem dX2_signal_5 : decode cX2_signal 5 = .ok (.invokeinterface 57 2, 5) := by decide +kernel
theorem dX2_signal_10 : decode cX2_signal 10 = .ok (.checkcast 61, 3) := dk_192 0 61 (dk_at dksX2_signal_0 10 rfl rfl)
theorem dX2_signal_13 : decode cX2_signal 13 = .ok (.getfield 149, 3) := dk_180 0 149 (dk_at dksX2_signal_0 13 rfl rfl)
theorem dX2_signal_16 : decode cX2_signal 16 = .ok (.iload_n 2, 1) := dk_28 (dk_at dksX2_signal_0 16 rfl rfl)
theorem dX2_signal_17 : decode cX2_signal 17 = .ok (.aaload, 1) := dk_50 (dk_at dksX2_signal_0 17 rfl rfl)
theorem dX2_signal_18 : decode cX2_signal 18 = .ok (.astore 6, 2) := dk_58 6 (dk_at dksX2_signal_0 18 rfl rfl)
theorem dX2_signal_20 : decode cX2_signal 20 = .ok (.aload 6, 2) := dk_25 6 (dk_at dksX2_signal_0 20 rfl rfl)
theorem dX2_signal_22 : decode cX2_signal 22 = .ok (.iload 4, 2) := dk_21 4 (dk_at dksX2_signal_0 22 rfl rfl)
theorem dX2_signal_24 : decode cX2_signal 24 = .ok (.aload_n 0, 1) := dk_42 (dk_at dksX2_signal_1 0 rfl rfl)
theorem dX2_signal_25 : decode cX2_signal 25 = .ok (.iload_n 1, 1) := dk_27 (dk_at dksX2_signal_1 1 rfl rfl)
theorem dX2_signal_26 : decode cX2_signal 26 = .ok (.iload_n 2, 1) := dk_28 (dk_at dksX2_signal_1 2 rfl rfl)
theorem dX2_signal_27 : decode cX2_signal 27 = .ok (.iload_n 3, 1) := dk_29 (dk_at dksX2_signal_1 3 rfl rfl)
theorem dX2_signal_28 : decode cX2_signal 28 = .ok (.iload 4, 2) := dk_21 4 (dk_at dksX2_signal_1 4 rfl rfl)
theorem dX2_signal_30 : decode cX2_signal 30 = .ok (.invokevirtual 148, 3) := dk_182 0 148 (dk_at dksX2_signal_1 6 rfl rfl)
theorem dX2_signal_33 : decode cX2_signal 33 = .ok (.iload 5, 2) := dk_21 5 (dk_at dksX2_signal_1 9 rfl rfl)
theorem dX2_signal_35 : decode cX2_signal 35 = .ok (.iadd, 1) := dk_96 (dk_at dksX2_signal_1 11 rfl rfl)
theorem dX2_signal_36 : decode cX2_signal 36 = .ok (.invokevirtual 153, 3) := dk_182 0 153 (dk_at dksX2_signal_1 12 rfl rfl)
theorem dX2_signal_39 : decode cX2_signal 39 = .ok (.fstore 7, 2) := dk_56 7 (dk_at dksX2_signal_1 15 rfl rfl)
theorem dX2_signal_41 : decode cX2_signal 41 = .ok (.aload_n 0, 1) := dk_42 (dk_at dksX2_signal_1 17 rfl rfl)
theorem dX2_signal_42 : decode cX2_signal 42 = .ok (.getfield 11, 3) := dk_180 0 11 (dk_at dksX2_signal_1 18 rfl rfl)
theorem dX2_signal_45 : decode cX2_signal 45 = .ok (.iload_n 1, 1) := dk_27 (dk_at dksX2_signal_1 21 rfl rfl)
theorem dX2_signal_46 : decode cX2_signal 46 = .ok (.aaload, 1) := dk_50 (dk_at dksX2_signal_1 22 rfl rfl)
theorem dX2_signal_47 : decode cX2_signal 47 = .ok (.iload_n 2, 1) := dk_28 (dk_at dksX2_signal_1 23 rfl rfl)
theorem dX2_signal_48 : decode cX2_signal 48 = .ok (.invokevirtual 159, 3) := dk_182 0 159 (dk_at dksX2_signal_2 0 rfl rfl)
theorem dX2_signal_51 : decode cX2_signal 51 = .ok (.fload 7, 2) := dk_23 7 (dk_at dksX2_signal_2 3 rfl rfl)
theorem dX2_signal_53 : decode cX2_signal 53 = .ok (.invokevirtual 163, 3) := dk_182 0 163 (dk_at dksX2_signal_2 5 rfl rfl)
theorem dX2_signal_56 : decode cX2_signal 56 = .ok (.freturn, 1) := dk_174 (dk_at dksX2_signal_2 8 rfl rfl)
abbrev cX2_setServo : ByteArray := prog_9_method_9_code
def yX2_setServo : MethodName := ⟨RX2, "setServo", "(IZ)Z"⟩
def dkwX2_setServo_1 : List UInt8 := [62, 29, 153, 0, 13, 42, 180, 0, 11, 27, 50, 28, 181, 0, 112, 29, 172]
abbrev dktX2_setServo_1 : List UInt8 := dkwX2_setServo_1 ++ []
def dkwX2_setServo_0 : List UInt8 := [28, 153, 0, 18, 42, 180, 0, 11, 27, 50, 180, 0, 102, 180, 0, 106, 154, 0, 7, 4, 167, 0, 4, 3]
abbrev dktX2_setServo_0 : List UInt8 := dkwX2_setServo_0 ++ dktX2_setServo_1
theorem dksX2_setServo_0 : cX2_setServo.data.toList.drop 0 = dktX2_setServo_0 := by decide +kernel
theorem dksX2_setServo_1 : cX2_setServo.data.toList.drop 24 = dktX2_setServo_1 := dk_seg dksX2_setServo_0 24 rfl rfl
theorem dX2_setServo_0 : decode cX2_setServo 0 = .ok (.iload_n 2, 1) := dk_28 (dk_at dksX2_setServo_0 0 rfl rfl)
theorem dX2_setServo_1 : decode cX2_setServo 1 = .ok (.ifCond .eq 18, 3) := dk_153 0 18 (dk_at dksX2_setServo_0 1 rfl rfl)
theorem dX2_setServo_4 : decode cX2_setServo 4 = .ok (.aload_n 0, 1) := dk_42 (dk_at dksX2_setServo_0 4 rfl rfl)
theorem dX2_setServo_5 : decode cX2_setServo 5 = .ok (.getfield 11, 3) := dk_180 0 11 (dk_at dksX2_setServo_0 5 rfl rfl)
theorem dX2_setServo_8 : decode cX2_setServo 8 = .ok (.iload_n 1, 1) := dk_27 (dk_at dksX2_setServo_0 8 rfl rfl)
theorem dX2_setServo_9 : decode cX2_setServo 9 = .ok (.aaload, 1) := dk_50 (dk_at dksX2_setServo_0 9 rfl rfl)
theorem dX2_setServo_10 : decode cX2_setServo 10 = .ok (.getfield 102, 3) := dk_180 0 102 (dk_at dksX2_setServo_0 10 rfl rfl)
theorem dX2_setServo_13 : decode cX2_setServo 13 = .ok (.getfield 106, 3) := dk_180 0 106 (dk_at dksX2_setServo_0 13 rfl rfl)
theorem dX2_setServo_16 : decode cX2_setServo 16 = .ok (.ifCond .ne 7, 3) := dk_154 0 7 (dk_at dksX2_setServo_0 16 rfl rfl)
theorem dX2_setServo_19 : decode cX2_setServo 19 = .ok (.iconst 1, 1) := dk_4 (dk_at dksX2_setServo_0 19 rfl rfl)
theorem dX2_setServo_20 : decode cX2_setServo 20 = .ok (.goto 4, 3) := dk_167 0 4 (dk_at dksX2_setServo_0 20 rfl rfl)
theorem dX2_setServo_23 : decode cX2_setServo 23 = .ok (.iconst 0, 1) := dk_3 (dk_at dksX2_setServo_0 23 rfl rfl)
theorem dX2_setServo_24 : decode cX2_setServo 24 = .ok (.istore_n 3, 1) := dk_62 (dk_at dksX2_setServo_1 0 rfl rfl)
theorem dX2_setServo_25 : decode cX2_setServo 25 = .ok (.iload_n 3, 1) := dk_29 (dk_at dksX2_setServo_1 1 rfl rfl)
theorem dX2_setServo_26 : decode cX2_setServo 26 = .ok (.ifCond .eq 13, 3) := dk_153 0 13 (dk_at dksX2_setServo_1 2 rfl rfl)
theorem dX2_setServo_29 : decode cX2_setServo 29 = .ok (.aload_n 0, 1) := dk_42 (dk_at dksX2_setServo_1 5 rfl rfl)
theorem dX2_setServo_30 : decode cX2_setServo 30 = .ok (.getfield 11, 3) := dk_180 0 11 (dk_at dksX2_setServo_1 6 rfl rfl)
theorem dX2_setServo_33 : decode cX2_setServo 33 = .ok (.iload_n 1, 1) := dk_27 (dk_at dksX2_setServo_1 9 rfl rfl)
theorem dX2_setServo_34 : decode cX2_setServo 34 = .ok (.aaload, 1) := dk_50 (dk_at dksX2_setServo_1 10 rfl rfl)
theorem dX2_setServo_35 : decode cX2_setServo 35 = .ok (.iload_n 2, 1) := dk_28 (dk_at dksX2_setServo_1 11 rfl rfl)
theorem dX2_setServo_36 : decode cX2_setServo 36 = .ok (.putfield 112, 3) := dk_181 0 112 (dk_at dksX2_setServo_1 12 rfl rfl)
theorem dX2_setServo_39 : decode cX2_setServo 39 = .ok (.iload_n 3, 1) := dk_29 (dk_at dksX2_setServo_1 15 rfl rfl)
theorem dX2_setServo_40 : decode cX2_setServo 40 = .ok (.ireturn, 1) := dk_172 (dk_at dksX2_setServo_1 16 rfl rfl)
abbrev cX2_polish : ByteArray := prog_9_method_14_code
def yX2_polish : MethodName := ⟨RX2, "polish", "(I)Z"⟩
def dkwX2_polish_2 : List UInt8 := [27, 185, 0, 57, 2, 0, 192, 0, 61, 182, 0, 138, 87, 28, 172]
abbrev dktX2_polish_2 : List UInt8 := dkwX2_polish_2 ++ []
def dkwX2_polish_1 : List UInt8 := [192, 0, 61, 180, 0, 92, 2, 160, 0, 7, 4, 167, 0, 4, 3, 61, 28, 153, 0, 20, 42, 180, 0, 20]
abbrev dktX2_polish_1 : List UInt8 := dkwX2_polish_1 ++ dktX2_polish_2
def dkwX2_polish_0 : List UInt8 := [27, 42, 180, 0, 20, 185, 0, 51, 1, 0, 162, 0, 27, 42, 180, 0, 20, 27, 185, 0, 57, 2, 0]
abbrev dktX2_polish_0 : List UInt8 := dkwX2_polish_0 ++ dktX2_polish_1
theorem dksX2_polish_0 : cX2_polish.data.toList.drop 0 = dktX2_polish_0 := by decide +kernel
theorem dksX2_polish_1 : cX2_polish.data.toList.drop 23 = dktX2_polish_1 := dk_seg dksX2_polish_0 23 rfl rfl
theorem dksX2_polish_2 : cX2_polish.data.toList.drop 47 = dktX2_polish_2 := dk_seg dksX2_polish_1 24 rfl rfl
theorem dX2_polish_0 : decode cX2_polish 0 = .ok (.iload_n 1, 1) := dk_27 (dk_at dksX2_polish_0 0 rfl rfl)
theorem dX2_polish_1 : decode cX2_polish 1 = .ok (.aload_n 0, 1) := dk_42 (dk_at dksX2_polish_0 1 rfl rfl)
theorem dX2_polish_2 : decode cX2_polish 2 = .ok (.getfield 20, 3) := dk_180 0 20 (dk_at dksX2_polish_0 2 rfl rfl)
theorem dX2_polish_5 : decode cX2_polish 5 = .ok (.invokeinterface 51 1, 5) := by decide +kernel
theorem dX2_polish_10 : decode cX2_polish 10 = .ok (.if_icmp .ge 27, 3) := dk_162 0 27 (dk_at dksX2_polish_0 10 rfl rfl)
theorem dX2_polish_13 : decode cX2_polish 13 = .ok (.aload_n 0, 1) := dk_42 (dk_at dksX2_polish_0 13 rfl rfl)
theorem dX2_polish_14 : decode cX2_polish 14 = .ok (.getfield 20, 3) := dk_180 0 20 (dk_at dksX2_polish_0 14 rfl rfl)
theorem dX2_polish_17 : decode cX2_polish 17 = .ok (.iload_n 1, 1) := dk_27 (dk_at dksX2_polish_0 17 rfl rfl)
theorem dX2_polish_18 : decode cX2_polish 18 = .ok (.invokeinterface 57 2, 5) := by decide +kernel
theorem dX2_polish_23 : decode cX2_polish 23 = .ok (.checkcast 61, 3) := dk_192 0 61 (dk_at dksX2_polish_1 0 rfl rfl)
theorem dX2_polish_26 : decode cX2_polish 26 = .ok (.getfield 92, 3) := dk_180 0 92 (dk_at dksX2_polish_1 3 rfl rfl)
theorem dX2_polish_29 : decode cX2_polish 29 = .ok (.iconst (-1), 1) := dk_2 (dk_at dksX2_polish_1 6 rfl rfl)
theorem dX2_polish_30 : decode cX2_polish 30 = .ok (.if_icmp .ne 7, 3) := dk_160 0 7 (dk_at dksX2_polish_1 7 rfl rfl)
theorem dX2_polish_33 : decode cX2_polish 33 = .ok (.iconst 1, 1) := dk_4 (dk_at dksX2_polish_1 10 rfl rfl)
theorem dX2_polish_34 : decode cX2_polish 34 = .ok (.goto 4, 3) := dk_167 0 4 (dk_at dksX2_polish_1 11 rfl rfl)
theorem dX2_polish_37 : decode cX2_polish 37 = .ok (.iconst 0, 1) := dk_3 (dk_at dksX2_polish_1 14 rfl rfl)
theorem dX2_polish_38 : decode cX2_polish 38 = .ok (.istore_n 2, 1) := dk_61 (dk_at dksX2_polish_1 15 rfl rfl)
theorem dX2_polish_39 : decode cX2_polish 39 = .ok (.iload_n 2, 1) := dk_28 (dk_at dksX2_polish_1 16 rfl rfl)
theorem dX2_polish_40 : decode cX2_polish 40 = .ok (.ifCond .eq 20, 3) := dk_153 0 20 (dk_at dksX2_polish_1 17 rfl rfl)
theorem dX2_polish_43 : decode cX2_polish 43 = .ok (.aload_n 0, 1) := dk_42 (dk_at dksX2_polish_1 20 rfl rfl)
theorem dX2_polish_44 : decode cX2_polish 44 = .ok (.getfield 20, 3) := dk_180 0 20 (dk_at dksX2_polish_1 21 rfl rfl)
theorem dX2_polish_47 : decode cX2_polish 47 = .ok (.iload_n 1, 1) := dk_27 (dk_at dksX2_polish_2 0 rfl rfl)
theorem dX2_polish_48 : decode cX2_polish 48 = .ok (.invokeinterface 57 2, 5) := by decide +kernel
theorem dX2_polish_53 : decode cX2_polish 53 = .ok (.checkcast 61, 3) := dk_192 0 61 (dk_at dksX2_polish_2 6 rfl rfl)
theorem dX2_polish_56 : decode cX2_polish 56 = .ok (.invokevirtual 138, 3) := dk_182 0 138 (dk_at dksX2_polish_2 9 rfl rfl)
theorem dX2_polish_59 : decode cX2_polish 59 = .ok (.pop, 1) := dk_87 (dk_at dksX2_polish_2 12 rfl rfl)
theorem dX2_polish_60 : decode cX2_polish 60 = .ok (.iload_n 2, 1) := dk_28 (dk_at dksX2_polish_2 13 rfl rfl)
theorem dX2_polish_61 : decode cX2_polish 61 = .ok (.ireturn, 1) := dk_172 (dk_at dksX2_polish_2 14 rfl rfl)
abbrev cX2_mend : ByteArray := prog_9_method_13_code
def yX2_mend : MethodName := ⟨RX2, "mend", "(II)Z"⟩
def dkwX2_mend_0 : List UInt8 := [42, 180, 0, 11, 27, 50, 28, 182, 0, 128, 182, 0, 135, 4, 172]
abbrev dktX2_mend_0 : List UInt8 := dkwX2_mend_0 ++ []
theorem dksX2_mend_0 : cX2_mend.data.toList.drop 0 = dktX2_mend_0 := by decide +kernel
theorem dX2_mend_0 : decode cX2_mend 0 = .ok (.aload_n 0, 1) := dk_42 (dk_at dksX2_mend_0 0 rfl rfl)
theorem dX2_mend_1 : decode cX2_mend 1 = .ok (.getfield 11, 3) := dk_180 0 11 (dk_at dksX2_mend_0 1 rfl rfl)
theorem dX2_mend_4 : decode cX2_mend 4 = .ok (.iload_n 1, 1) := dk_27 (dk_at dksX2_mend_0 4 rfl rfl)
theorem dX2_mend_5 : decode cX2_mend 5 = .ok (.aaload, 1) := dk_50 (dk_at dksX2_mend_0 5 rfl rfl)
theorem dX2_mend_6 : decode cX2_mend 6 = .ok (.iload_n 2, 1) := dk_28 (dk_at dksX2_mend_0 6 rfl rfl)
theorem dX2_mend_7 : decode cX2_mend 7 = .ok (.invokevirtual 128, 3) := dk_182 0 128 (dk_at dksX2_mend_0 7 rfl rfl)
theorem dX2_mend_10 : decode cX2_mend 10 = .ok (.invokevirtual 135, 3) := dk_182 0 135 (dk_at dksX2_mend_0 10 rfl rfl)
theorem dX2_mend_13 : decode cX2_mend 13 = .ok (.iconst 1, 1) := dk_4 (dk_at dksX2_mend_0 13 rfl rfl)
theorem dX2_mend_14 : decode cX2_mend 14 = .ok (.ireturn, 1) := dk_172 (dk_at dksX2_mend_0 14 rfl rfl)
abbrev cX2_copy : ByteArray := prog_9_method_3_code
def yX2_copy : MethodName := ⟨RX2, "copy", "()LDiskPacks$State;"⟩
def dkwX2_copy_0 : List UInt8 := [187, 0, 12, 89, 42, 183, 0, 70, 176]
abbrev dktX2_copy_0 : List UInt8 := dkwX2_copy_0 ++ []
theorem dksX2_copy_0 : cX2_copy.data.toList.drop 0 = dktX2_copy_0 := by decide +kernel
theorem dX2_copy_0 : decode cX2_copy 0 = .ok (.new 12, 3) := dk_187 0 12 (dk_at dksX2_copy_0 0 rfl rfl)
theorem dX2_copy_3 : decode cX2_copy 3 = .ok (.dup, 1) := dk_89 (dk_at dksX2_copy_0 3 rfl rfl)
theorem dX2_copy_4 : decode cX2_copy 4 = .ok (.aload_n 0, 1) := dk_42 (dk_at dksX2_copy_0 4 rfl rfl)
theorem dX2_copy_5 : decode cX2_copy 5 = .ok (.invokespecial 70, 3) := dk_183 0 70 (dk_at dksX2_copy_0 5 rfl rfl)
theorem dX2_copy_8 : decode cX2_copy 8 = .ok (.areturn, 1) := dk_176 (dk_at dksX2_copy_0 8 rfl rfl)
abbrev cX2_init_2 : ByteArray := prog_9_method_2_code
def yX2_init_2 : MethodName := ⟨RX2, "<init>", "(LDiskPacks$State;)V"⟩
def dkwX2_init_2_6 : List UInt8 := [192, 0, 61, 182, 0, 63, 185, 0, 66, 2, 0, 87, 132, 3, 1, 167, 255, 222, 177]
abbrev dktX2_init_2_6 : List UInt8 := dkwX2_init_2_6 ++ []
def dkwX2_init_2_5 : List UInt8 := [61, 3, 62, 29, 28, 162, 0, 35, 42, 180, 0, 20, 43, 180, 0, 20, 29, 185, 0, 57, 2, 0]
abbrev dktX2_init_2_5 : List UInt8 := dkwX2_init_2_5 ++ dktX2_init_2_6
def dkwX2_init_2_4 : List UInt8 := [180, 0, 11, 28, 50, 182, 0, 47, 83, 132, 2, 1, 167, 255, 233, 43, 180, 0, 20, 185, 0, 51, 1, 0]
abbrev dktX2_init_2_4 : List UInt8 := dkwX2_init_2_4 ++ dktX2_init_2_5
def dkwX2_init_2_3 : List UInt8 := [181, 0, 41, 42, 43, 180, 0, 44, 181, 0, 44, 3, 61, 28, 7, 162, 0, 24, 42, 180, 0, 11, 28, 43]
abbrev dktX2_init_2_3 : List UInt8 := dkwX2_init_2_3 ++ dktX2_init_2_4
def dkwX2_init_2_2 : List UInt8 := [182, 0, 36, 192, 0, 37, 181, 0, 32, 42, 43, 180, 0, 24, 181, 0, 24, 42, 43, 180, 0, 41]
abbrev dktX2_init_2_2 : List UInt8 := dkwX2_init_2_2 ++ dktX2_init_2_3
def dkwX2_init_2_1 : List UInt8 := [7, 181, 0, 24, 42, 43, 180, 0, 28, 182, 0, 36, 192, 0, 37, 181, 0, 28, 42, 43, 180, 0, 32]
abbrev dktX2_init_2_1 : List UInt8 := dkwX2_init_2_1 ++ dktX2_init_2_2
def dkwX2_init_2_0 : List UInt8 := [42, 183, 0, 3, 42, 7, 189, 0, 9, 181, 0, 11, 42, 187, 0, 17, 89, 183, 0, 19, 181, 0, 20, 42]
abbrev dktX2_init_2_0 : List UInt8 := dkwX2_init_2_0 ++ dktX2_init_2_1
theorem dksX2_init_2_0 : cX2_init_2.data.toList.drop 0 = dktX2_init_2_0 := by decide +kernel
theorem dksX2_init_2_1 : cX2_init_2.data.toList.drop 24 = dktX2_init_2_1 := dk_seg dksX2_init_2_0 24 rfl rfl
theorem dksX2_init_2_2 : cX2_init_2.data.toList.drop 47 = dktX2_init_2_2 := dk_seg dksX2_init_2_1 23 rfl rfl
theorem dksX2_init_2_3 : cX2_init_2.data.toList.drop 69 = dktX2_init_2_3 := dk_seg dksX2_init_2_2 22 rfl rfl
theorem dksX2_init_2_4 : cX2_init_2.data.toList.drop 93 = dktX2_init_2_4 := dk_seg dksX2_init_2_3 24 rfl rfl
theorem dksX2_init_2_5 : cX2_init_2.data.toList.drop 117 = dktX2_init_2_5 := dk_seg dksX2_init_2_4 24 rfl rfl
theorem dksX2_init_2_6 : cX2_init_2.data.toList.drop 139 = dktX2_init_2_6 := dk_seg dksX2_init_2_5 22 rfl rfl
theorem dX2_init_2_0 : decode cX2_init_2 0 = .ok (.aload_n 0, 1) := dk_42 (dk_at dksX2_init_2_0 0 rfl rfl)
theorem dX2_init_2_1 : decode cX2_init_2 1 = .ok (.invokespecial 3, 3) := dk_183 0 3 (dk_at dksX2_init_2_0 1 rfl rfl)
theorem dX2_init_2_4 : decode cX2_init_2 4 = .ok (.aload_n 0, 1) := dk_42 (dk_at dksX2_init_2_0 4 rfl rfl)
theorem dX2_init_2_5 : decode cX2_init_2 5 = .ok (.iconst 4, 1) := dk_7 (dk_at dksX2_init_2_0 5 rfl rfl)
theorem dX2_init_2_6 : decode cX2_init_2 6 = .ok (.anewarray 9, 3) := dk_189 0 9 (dk_at dksX2_init_2_0 6 rfl rfl)
theorem dX2_init_2_9 : decode cX2_init_2 9 = .ok (.putfield 11, 3) := dk_181 0 11 (dk_at dksX2_init_2_0 9 rfl rfl)
theorem dX2_init_2_12 : decode cX2_init_2 12 = .ok (.aload_n 0, 1) := dk_42 (dk_at dksX2_init_2_0 12 rfl rfl)
theorem dX2_init_2_13 : decode cX2_init_2 13 = .ok (.new 17, 3) := dk_187 0 17 (dk_at dksX2_init_2_0 13 rfl rfl)
theorem dX2_init_2_16 : decode cX2_init_2 16 = .ok (.dup, 1) := dk_89 (dk_at dksX2_init_2_0 16 rfl rfl)
theorem dX2_init_2_17 : decode cX2_init_2 17 = .ok (.invokespecial 19, 3) := dk_183 0 19 (dk_at dksX2_init_2_0 17 rfl rfl)
theorem dX2_init_2_20 : decode cX2_init_2 20 = .ok (.putfield 20, 3) := dk_181 0 20 (dk_at dksX2_init_2_0 20 rfl rfl)
theorem dX2_init_2_23 : decode cX2_init_2 23 = .ok (.aload_n 0, 1) := dk_42 (dk_at dksX2_init_2_0 23 rfl rfl)
theorem dX2_init_2_24 : decode cX2_init_2 24 = .ok (.iconst 4, 1) := dk_7 (dk_at dksX2_init_2_1 0 rfl rfl)
theorem dX2_init_2_25 : decode cX2_init_2 25 = .ok (.putfield 24, 3) := dk_181 0 24 (dk_at dksX2_init_2_1 1 rfl rfl)
theorem dX2_init_2_28 : decode cX2_init_2 28 = .ok (.aload_n 0, 1) := dk_42 (dk_at dksX2_init_2_1 4 rfl rfl)
theorem dX2_init_2_29 : decode cX2_init_2 29 = .ok (.aload_n 1, 1) := dk_43 (dk_at dksX2_init_2_1 5 rfl rfl)
theorem dX2_init_2_30 : decode cX2_init_2 30 = .ok (.getfield 28, 3) := dk_180 0 28 (dk_at dksX2_init_2_1 6 rfl rfl)
theorem dX2_init_2_33 : decode cX2_init_2 33 = .ok (.invokevirtual 36, 3) := dk_182 0 36 (dk_at dksX2_init_2_1 9 rfl rfl)
theorem dX2_init_2_36 : decode cX2_init_2 36 = .ok (.checkcast 37, 3) := dk_192 0 37 (dk_at dksX2_init_2_1 12 rfl rfl)
theorem dX2_init_2_39 : decode cX2_init_2 39 = .ok (.putfield 28, 3) := dk_181 0 28 (dk_at dksX2_init_2_1 15 rfl rfl)
theorem dX2_init_2_42 : decode cX2_init_2 42 = .ok (.aload_n 0, 1) := dk_42 (dk_at dksX2_init_2_1 18 rfl rfl)
theorem dX2_init_2_43 : decode cX2_init_2 43 = .ok (.aload_n 1, 1) := dk_43 (dk_at dksX2_init_2_1 19 rfl rfl)
theorem dX2_init_2_44 : decode cX2_init_2 44 = .ok (.getfield 32, 3) := dk_180 0 32 (dk_at dksX2_init_2_1 20 rfl rfl)
theorem dX2_init_2_47 : decode cX2_init_2 47 = .ok (.invokevirtual 36, 3) := dk_182 0 36 (dk_at dksX2_init_2_2 0 rfl rfl)
theorem dX2_init_2_50 : decode cX2_init_2 50 = .ok (.checkcast 37, 3) := dk_192 0 37 (dk_at dksX2_init_2_2 3 rfl rfl)
theorem dX2_init_2_53 : decode cX2_init_2 53 = .ok (.putfield 32, 3) := dk_181 0 32 (dk_at dksX2_init_2_2 6 rfl rfl)
theorem dX2_init_2_56 : decode cX2_init_2 56 = .ok (.aload_n 0, 1) := dk_42 (dk_at dksX2_init_2_2 9 rfl rfl)
theorem dX2_init_2_57 : decode cX2_init_2 57 = .ok (.aload_n 1, 1) := dk_43 (dk_at dksX2_init_2_2 10 rfl rfl)
theorem dX2_init_2_58 : decode cX2_init_2 58 = .ok (.getfield 24, 3) := dk_180 0 24 (dk_at dksX2_init_2_2 11 rfl rfl)
theorem dX2_init_2_61 : decode cX2_init_2 61 = .ok (.putfield 24, 3) := dk_181 0 24 (dk_at dksX2_init_2_2 14 rfl rfl)
theorem dX2_init_2_64 : decode cX2_init_2 64 = .ok (.aload_n 0, 1) := dk_42 (dk_at dksX2_init_2_2 17 rfl rfl)
theorem dX2_init_2_65 : decode cX2_init_2 65 = .ok (.aload_n 1, 1) := dk_43 (dk_at dksX2_init_2_2 18 rfl rfl)
theorem dX2_init_2_66 : decode cX2_init_2 66 = .ok (.getfield 41, 3) := dk_180 0 41 (dk_at dksX2_init_2_2 19 rfl rfl)
theorem dX2_init_2_69 : decode cX2_init_2 69 = .ok (.putfield 41, 3) := dk_181 0 41 (dk_at dksX2_init_2_3 0 rfl rfl)
theorem dX2_init_2_72 : decode cX2_init_2 72 = .ok (.aload_n 0, 1) := dk_42 (dk_at dksX2_init_2_3 3 rfl rfl)
theorem dX2_init_2_73 : decode cX2_init_2 73 = .ok (.aload_n 1, 1) := dk_43 (dk_at dksX2_init_2_3 4 rfl rfl)
theorem dX2_init_2_74 : decode cX2_init_2 74 = .ok (.getfield 44, 3) := dk_180 0 44 (dk_at dksX2_init_2_3 5 rfl rfl)
theorem dX2_init_2_77 : decode cX2_init_2 77 = .ok (.putfield 44, 3) := dk_181 0 44 (dk_at dksX2_init_2_3 8 rfl rfl)
theorem dX2_init_2_80 : decode cX2_init_2 80 = .ok (.iconst 0, 1) := dk_3 (dk_at dksX2_init_2_3 11 rfl rfl)
theorem dX2_init_2_81 : decode cX2_init_2 81 = .ok (.istore_n 2, 1) := dk_61 (dk_at dksX2_init_2_3 12 rfl rfl)
theorem dX2_init_2_82 : decode cX2_init_2 82 = .ok (.iload_n 2, 1) := dk_28 (dk_at dksX2_init_2_3 13 rfl rfl)
theorem dX2_init_2_83 : decode cX2_init_2 83 = .ok (.iconst 4, 1) := dk_7 (dk_at dksX2_init_2_3 14 rfl rfl)
theorem dX2_init_2_84 : decode cX2_init_2 84 = .ok (.if_icmp .ge 24, 3) := dk_162 0 24 (dk_at dksX2_init_2_3 15 rfl rfl)
theorem dX2_init_2_87 : decode cX2_init_2 87 = .ok (.aload_n 0, 1) := dk_42 (dk_at dksX2_init_2_3 18 rfl rfl)
theorem dX2_init_2_88 : decode cX2_init_2 88 = .ok (.getfield 11, 3) := dk_180 0 11 (dk_at dksX2_init_2_3 19 rfl rfl)
theorem dX2_init_2_91 : decode cX2_init_2 91 = .ok (.iload_n 2, 1) := dk_28 (dk_at dksX2_init_2_3 22 rfl rfl)
theorem dX2_init_2_92 : decode cX2_init_2 92 = .ok (.aload_n 1, 1) := dk_43 (dk_at dksX2_init_2_3 23 rfl rfl)
theorem dX2_init_2_93 : decode cX2_init_2 93 = .ok (.getfield 11, 3) := dk_180 0 11 (dk_at dksX2_init_2_4 0 rfl rfl)
theorem dX2_init_2_96 : decode cX2_init_2 96 = .ok (.iload_n 2, 1) := dk_28 (dk_at dksX2_init_2_4 3 rfl rfl)
theorem dX2_init_2_97 : decode cX2_init_2 97 = .ok (.aaload, 1) := dk_50 (dk_at dksX2_init_2_4 4 rfl rfl)
theorem dX2_init_2_98 : decode cX2_init_2 98 = .ok (.invokevirtual 47, 3) := dk_182 0 47 (dk_at dksX2_init_2_4 5 rfl rfl)
theorem dX2_init_2_101 : decode cX2_init_2 101 = .ok (.aastore, 1) := dk_83 (dk_at dksX2_init_2_4 8 rfl rfl)
theorem dX2_init_2_102 : decode cX2_init_2 102 = .ok (.iinc 2 1, 3) := dk_132 2 1 (dk_at dksX2_init_2_4 9 rfl rfl)
theorem dX2_init_2_105 : decode cX2_init_2 105 = .ok (.goto (-23), 3) := dk_167 255 233 (dk_at dksX2_init_2_4 12 rfl rfl)
theorem dX2_init_2_108 : decode cX2_init_2 108 = .ok (.aload_n 1, 1) := dk_43 (dk_at dksX2_init_2_4 15 rfl rfl)
theorem dX2_init_2_109 : decode cX2_init_2 109 = .ok (.getfield 20, 3) := dk_180 0 20 (dk_at dksX2_init_2_4 16 rfl rfl)
theorem dX2_init_2_112 : decode cX2_init_2 112 = .ok (.invokeinterface 51 1, 5) := by decide +kernel
theorem dX2_init_2_117 : decode cX2_init_2 117 = .ok (.istore_n 2, 1) := dk_61 (dk_at dksX2_init_2_5 0 rfl rfl)
theorem dX2_init_2_118 : decode cX2_init_2 118 = .ok (.iconst 0, 1) := dk_3 (dk_at dksX2_init_2_5 1 rfl rfl)
theorem dX2_init_2_119 : decode cX2_init_2 119 = .ok (.istore_n 3, 1) := dk_62 (dk_at dksX2_init_2_5 2 rfl rfl)
theorem dX2_init_2_120 : decode cX2_init_2 120 = .ok (.iload_n 3, 1) := dk_29 (dk_at dksX2_init_2_5 3 rfl rfl)
theorem dX2_init_2_121 : decode cX2_init_2 121 = .ok (.iload_n 2, 1) := dk_28 (dk_at dksX2_init_2_5 4 rfl rfl)
theorem dX2_init_2_122 : decode cX2_init_2 122 = .ok (.if_icmp .ge 35, 3) := dk_162 0 35 (dk_at dksX2_init_2_5 5 rfl rfl)
theorem dX2_init_2_125 : decode cX2_init_2 125 = .ok (.aload_n 0, 1) := dk_42 (dk_at dksX2_init_2_5 8 rfl rfl)
theorem dX2_init_2_126 : decode cX2_init_2 126 = .ok (.getfield 20, 3) := dk_180 0 20 (dk_at dksX2_init_2_5 9 rfl rfl)
theorem dX2_init_2_129 : decode cX2_init_2 129 = .ok (.aload_n 1, 1) := dk_43 (dk_at dksX2_init_2_5 12 rfl rfl)
theorem dX2_init_2_130 : decode cX2_init_2 130 = .ok (.getfield 20, 3) := dk_180 0 20 (dk_at dksX2_init_2_5 13 rfl rfl)
theorem dX2_init_2_133 : decode cX2_init_2 133 = .ok (.iload_n 3, 1) := dk_29 (dk_at dksX2_init_2_5 16 rfl rfl)
theorem dX2_init_2_134 : decode cX2_init_2 134 = .ok (.invokeinterface 57 2, 5) := by decide +kernel
theorem dX2_init_2_139 : decode cX2_init_2 139 = .ok (.checkcast 61, 3) := dk_192 0 61 (dk_at dksX2_init_2_6 0 rfl rfl)
theorem dX2_init_2_142 : decode cX2_init_2 142 = .ok (.invokevirtual 63, 3) := dk_182 0 63 (dk_at dksX2_init_2_6 3 rfl rfl)
theorem dX2_init_2_145 : decode cX2_init_2 145 = .ok (.invokeinterface 66 2, 5) := by decide +kernel
theorem dX2_init_2_150 : decode cX2_init_2 150 = .ok (.pop, 1) := dk_87 (dk_at dksX2_init_2_6 11 rfl rfl)
theorem dX2_init_2_151 : decode cX2_init_2 151 = .ok (.iinc 3 1, 3) := dk_132 3 1 (dk_at dksX2_init_2_6 12 rfl rfl)
theorem dX2_init_2_154 : decode cX2_init_2 154 = .ok (.goto (-34), 3) := dk_167 255 222 (dk_at dksX2_init_2_6 15 rfl rfl)
theorem dX2_init_2_157 : decode cX2_init_2 157 = .ok (.return_, 1) := dk_177 (dk_at dksX2_init_2_6 18 rfl rfl)
abbrev cX2_canMakePack : ByteArray := prog_9_method_10_code
def yX2_canMakePack : MethodName := ⟨RX2, "canMakePack", "(I)Z"⟩
def dkwX2_canMakePack_1 : List UInt8 := [44, 184, 0, 84, 172]
abbrev dktX2_canMakePack_1 : List UInt8 := dkwX2_canMakePack_1 ++ []
def dkwX2_canMakePack_0 : List UInt8 := [5, 189, 0, 76, 89, 3, 42, 186, 0, 115, 0, 0, 83, 89, 4, 42, 27, 186, 0, 118, 0, 0, 83, 77]
abbrev dktX2_canMakePack_0 : List UInt8 := dkwX2_canMakePack_0 ++ dktX2_canMakePack_1
theorem dksX2_canMakePack_0 : cX2_canMakePack.data.toList.drop 0 = dktX2_canMakePack_0 := by decide +kernel
theorem dksX2_canMakePack_1 : cX2_canMakePack.data.toList.drop 24 = dktX2_canMakePack_1 := dk_seg dksX2_canMakePack_0 24 rfl rfl
theorem dX2_canMakePack_0 : decode cX2_canMakePack 0 = .ok (.iconst 2, 1) := dk_5 (dk_at dksX2_canMakePack_0 0 rfl rfl)
theorem dX2_canMakePack_1 : decode cX2_canMakePack 1 = .ok (.anewarray 76, 3) := dk_189 0 76 (dk_at dksX2_canMakePack_0 1 rfl rfl)
theorem dX2_canMakePack_4 : decode cX2_canMakePack 4 = .ok (.dup, 1) := dk_89 (dk_at dksX2_canMakePack_0 4 rfl rfl)
theorem dX2_canMakePack_5 : decode cX2_canMakePack 5 = .ok (.iconst 0, 1) := dk_3 (dk_at dksX2_canMakePack_0 5 rfl rfl)
theorem dX2_canMakePack_6 : decode cX2_canMakePack 6 = .ok (.aload_n 0, 1) := dk_42 (dk_at dksX2_canMakePack_0 6 rfl rfl)
theorem dX2_canMakePack_7 : decode cX2_canMakePack 7 = .ok (.invokedynamic 115, 5) := by decide +kernel
theorem dX2_canMakePack_12 : decode cX2_canMakePack 12 = .ok (.aastore, 1) := dk_83 (dk_at dksX2_canMakePack_0 12 rfl rfl)
theorem dX2_canMakePack_13 : decode cX2_canMakePack 13 = .ok (.dup, 1) := dk_89 (dk_at dksX2_canMakePack_0 13 rfl rfl)
theorem dX2_canMakePack_14 : decode cX2_canMakePack 14 = .ok (.iconst 1, 1) := dk_4 (dk_at dksX2_canMakePack_0 14 rfl rfl)
theorem dX2_canMakePack_15 : decode cX2_canMakePack 15 = .ok (.aload_n 0, 1) := dk_42 (dk_at dksX2_canMakePack_0 15 rfl rfl)
theorem dX2_canMakePack_16 : decode cX2_canMakePack 16 = .ok (.iload_n 1, 1) := dk_27 (dk_at dksX2_canMakePack_0 16 rfl rfl)
theorem dX2_canMakePack_17 : decode cX2_canMakePack 17 = .ok (.invokedynamic 118, 5) := by decide +kernel
theorem dX2_canMakePack_22 : decode cX2_canMakePack 22 = .ok (.aastore, 1) := dk_83 (dk_at dksX2_canMakePack_0 22 rfl rfl)
theorem dX2_canMakePack_23 : decode cX2_canMakePack 23 = .ok (.astore_n 2, 1) := dk_77 (dk_at dksX2_canMakePack_0 23 rfl rfl)
theorem dX2_canMakePack_24 : decode cX2_canMakePack 24 = .ok (.aload_n 2, 1) := dk_44 (dk_at dksX2_canMakePack_1 0 rfl rfl)
theorem dX2_canMakePack_25 : decode cX2_canMakePack 25 = .ok (.invokestatic 84, 3) := dk_184 0 84 (dk_at dksX2_canMakePack_1 1 rfl rfl)
theorem dX2_canMakePack_28 : decode cX2_canMakePack 28 = .ok (.ireturn, 1) := dk_172 (dk_at dksX2_canMakePack_1 4 rfl rfl)
abbrev cX2_lambda_canMakePack_3 : ByteArray := prog_9_method_29_code
def yX2_lambda_canMakePack_3 : MethodName := ⟨RX2, "lambda$canMakePack$3", "()Z"⟩
def dkwX2_lambda_canMakePack_3_0 : List UInt8 := [42, 180, 0, 20, 185, 0, 51, 1, 0, 16, 6, 160, 0, 7, 4, 167, 0, 4, 3, 172]
abbrev dktX2_lambda_canMakePack_3_0 : List UInt8 := dkwX2_lambda_canMakePack_3_0 ++ []
theorem dksX2_lambda_canMakePack_3_0 : cX2_lambda_canMakePack_3.data.toList.drop 0 = dktX2_lambda_canMakePack_3_0 := by decide +kernel
theorem dX2_lambda_canMakePack_3_0 : decode cX2_lambda_canMakePack_3 0 = .ok (.aload_n 0, 1) := dk_42 (dk_at dksX2_lambda_canMakePack_3_0 0 rfl rfl)
theorem dX2_lambda_canMakePack_3_1 : decode cX2_lambda_canMakePack_3 1 = .ok (.getfield 20, 3) := dk_180 0 20 (dk_at dksX2_lambda_canMakePack_3_0 1 rfl rfl)
theorem dX2_lambda_canMakePack_3_4 : decode cX2_lambda_canMakePack_3 4 = .ok (.invokeinterface 51 1, 5) := by decide +kernel
theorem dX2_lambda_canMakePack_3_9 : decode cX2_lambda_canMakePack_3 9 = .ok (.bipush 6, 2) := dk_16 6 (dk_at dksX2_lambda_canMakePack_3_0 9 rfl rfl)
theorem dX2_lambda_canMakePack_3_11 : decode cX2_lambda_canMakePack_3 11 = .ok (.if_icmp .ne 7, 3) := dk_160 0 7 (dk_at dksX2_lambda_canMakePack_3_0 11 rfl rfl)
theorem dX2_lambda_canMakePack_3_14 : decode cX2_lambda_canMakePack_3 14 = .ok (.iconst 1, 1) := dk_4 (dk_at dksX2_lambda_canMakePack_3_0 14 rfl rfl)
theorem dX2_lambda_canMakePack_3_15 : decode cX2_lambda_canMakePack_3 15 = .ok (.goto 4, 3) := dk_167 0 4 (dk_at dksX2_lambda_canMakePack_3_0 15 rfl rfl)
theorem dX2_lambda_canMakePack_3_18 : decode cX2_lambda_canMakePack_3 18 = .ok (.iconst 0, 1) := dk_3 (dk_at dksX2_lambda_canMakePack_3_0 18 rfl rfl)
theorem dX2_lambda_canMakePack_3_19 : decode cX2_lambda_canMakePack_3 19 = .ok (.ireturn, 1) := dk_172 (dk_at dksX2_lambda_canMakePack_3_0 19 rfl rfl)
abbrev cX2_lambda_canMakePack_4 : ByteArray := prog_9_method_28_code
def yX2_lambda_canMakePack_4 : MethodName := ⟨RX2, "lambda$canMakePack$4", "(I)Z"⟩
def dkwX2_lambda_canMakePack_4_0 : List UInt8 := [42, 180, 0, 11, 27, 50, 180, 0, 102, 180, 0, 106, 172]
abbrev dktX2_lambda_canMakePack_4_0 : List UInt8 := dkwX2_lambda_canMakePack_4_0 ++ []
theorem dksX2_lambda_canMakePack_4_0 : cX2_lambda_canMakePack_4.data.toList.drop 0 = dktX2_lambda_canMakePack_4_0 := by decide +kernel
theorem dX2_lambda_canMakePack_4_0 : decode cX2_lambda_canMakePack_4 0 = .ok (.aload_n 0, 1) := dk_42 (dk_at dksX2_lambda_canMakePack_4_0 0 rfl rfl)
theorem dX2_lambda_canMakePack_4_1 : decode cX2_lambda_canMakePack_4 1 = .ok (.getfield 11, 3) := dk_180 0 11 (dk_at dksX2_lambda_canMakePack_4_0 1 rfl rfl)
theorem dX2_lambda_canMakePack_4_4 : decode cX2_lambda_canMakePack_4 4 = .ok (.iload_n 1, 1) := dk_27 (dk_at dksX2_lambda_canMakePack_4_0 4 rfl rfl)
theorem dX2_lambda_canMakePack_4_5 : decode cX2_lambda_canMakePack_4 5 = .ok (.aaload, 1) := dk_50 (dk_at dksX2_lambda_canMakePack_4_0 5 rfl rfl)
theorem dX2_lambda_canMakePack_4_6 : decode cX2_lambda_canMakePack_4 6 = .ok (.getfield 102, 3) := dk_180 0 102 (dk_at dksX2_lambda_canMakePack_4_0 6 rfl rfl)
theorem dX2_lambda_canMakePack_4_9 : decode cX2_lambda_canMakePack_4 9 = .ok (.getfield 106, 3) := dk_180 0 106 (dk_at dksX2_lambda_canMakePack_4_0 9 rfl rfl)
theorem dX2_lambda_canMakePack_4_12 : decode cX2_lambda_canMakePack_4 12 = .ok (.ireturn, 1) := dk_172 (dk_at dksX2_lambda_canMakePack_4_0 12 rfl rfl)
abbrev cX2_makePack : ByteArray := prog_9_method_11_code
def yX2_makePack : MethodName := ⟨RX2, "makePack", "(I)V"⟩
def dkwX2_makePack_1 : List UInt8 := [27, 50, 180, 0, 122, 96, 183, 0, 125, 185, 0, 66, 2, 0, 87, 177]
abbrev dktX2_makePack_1 : List UInt8 := dkwX2_makePack_1 ++ []
def dkwX2_makePack_0 : List UInt8 := [42, 180, 0, 20, 187, 0, 61, 89, 42, 180, 0, 11, 27, 50, 180, 0, 102, 180, 0, 119, 42, 180, 0, 11]
abbrev dktX2_makePack_0 : List UInt8 := dkwX2_makePack_0 ++ dktX2_makePack_1
theorem dksX2_makePack_0 : cX2_makePack.data.toList.drop 0 = dktX2_makePack_0 := by decide +kernel
theorem dksX2_makePack_1 : cX2_makePack.data.toList.drop 24 = dktX2_makePack_1 := dk_seg dksX2_makePack_0 24 rfl rfl
theorem dX2_makePack_0 : decode cX2_makePack 0 = .ok (.aload_n 0, 1) := dk_42 (dk_at dksX2_makePack_0 0 rfl rfl)
theorem dX2_makePack_1 : decode cX2_makePack 1 = .ok (.getfield 20, 3) := dk_180 0 20 (dk_at dksX2_makePack_0 1 rfl rfl)
theorem dX2_makePack_4 : decode cX2_makePack 4 = .ok (.new 61, 3) := dk_187 0 61 (dk_at dksX2_makePack_0 4 rfl rfl)
theorem dX2_makePack_7 : decode cX2_makePack 7 = .ok (.dup, 1) := dk_89 (dk_at dksX2_makePack_0 7 rfl rfl)
theorem dX2_makePack_8 : decode cX2_makePack 8 = .ok (.aload_n 0, 1) := dk_42 (dk_at dksX2_makePack_0 8 rfl rfl)
theorem dX2_makePack_9 : decode cX2_makePack 9 = .ok (.getfield 11, 3) := dk_180 0 11 (dk_at dksX2_makePack_0 9 rfl rfl)
theorem dX2_makePack_12 : decode cX2_makePack 12 = .ok (.iload_n 1, 1) := dk_27 (dk_at dksX2_makePack_0 12 rfl rfl)
theorem dX2_makePack_13 : decode cX2_makePack 13 = .ok (.aaload, 1) := dk_50 (dk_at dksX2_makePack_0 13 rfl rfl)
theorem dX2_makePack_14 : decode cX2_makePack 14 = .ok (.getfield 102, 3) := dk_180 0 102 (dk_at dksX2_makePack_0 14 rfl rfl)
theorem dX2_makePack_17 : decode cX2_makePack 17 = .ok (.getfield 119, 3) := dk_180 0 119 (dk_at dksX2_makePack_0 17 rfl rfl)
theorem dX2_makePack_20 : decode cX2_makePack 20 = .ok (.aload_n 0, 1) := dk_42 (dk_at dksX2_makePack_0 20 rfl rfl)
theorem dX2_makePack_21 : decode cX2_makePack 21 = .ok (.getfield 11, 3) := dk_180 0 11 (dk_at dksX2_makePack_0 21 rfl rfl)
theorem dX2_makePack_24 : decode cX2_makePack 24 = .ok (.iload_n 1, 1) := dk_27 (dk_at dksX2_makePack_1 0 rfl rfl)
theorem dX2_makePack_25 : decode cX2_makePack 25 = .ok (.aaload, 1) := dk_50 (dk_at dksX2_makePack_1 1 rfl rfl)
theorem dX2_makePack_26 : decode cX2_makePack 26 = .ok (.getfield 122, 3) := dk_180 0 122 (dk_at dksX2_makePack_1 2 rfl rfl)
theorem dX2_makePack_29 : decode cX2_makePack 29 = .ok (.iadd, 1) := dk_96 (dk_at dksX2_makePack_1 5 rfl rfl)
theorem dX2_makePack_30 : decode cX2_makePack 30 = .ok (.invokespecial 125, 3) := dk_183 0 125 (dk_at dksX2_makePack_1 6 rfl rfl)
theorem dX2_makePack_33 : decode cX2_makePack 33 = .ok (.invokeinterface 66 2, 5) := by decide +kernel
theorem dX2_makePack_38 : decode cX2_makePack 38 = .ok (.pop, 1) := dk_87 (dk_at dksX2_makePack_1 14 rfl rfl)
theorem dX2_makePack_39 : decode cX2_makePack 39 = .ok (.return_, 1) := dk_177 (dk_at dksX2_makePack_1 15 rfl rfl)
abbrev cX2_strike : ByteArray := prog_9_method_12_code
def yX2_strike : MethodName := ⟨RX2, "strike", "(II)V"⟩
def dkwX2_strike_1 : List UInt8 := [6, 159, 0, 7, 4, 167, 0, 4, 3, 126, 181, 0, 112, 177]
abbrev dktX2_strike_1 : List UInt8 := dkwX2_strike_1 ++ []
def dkwX2_strike_0 : List UInt8 := [42, 180, 0, 11, 27, 50, 28, 182, 0, 128, 182, 0, 132, 42, 180, 0, 11, 27, 50, 89, 180, 0, 112, 28]
abbrev dktX2_strike_0 : List UInt8 := dkwX2_strike_0 ++ dktX2_strike_1
theorem dksX2_strike_0 : cX2_strike.data.toList.drop 0 = dktX2_strike_0 := by decide +kernel
theorem dksX2_strike_1 : cX2_strike.data.toList.drop 24 = dktX2_strike_1 := dk_seg dksX2_strike_0 24 rfl rfl
theorem dX2_strike_0 : decode cX2_strike 0 = .ok (.aload_n 0, 1) := dk_42 (dk_at dksX2_strike_0 0 rfl rfl)
theorem dX2_strike_1 : decode cX2_strike 1 = .ok (.getfield 11, 3) := dk_180 0 11 (dk_at dksX2_strike_0 1 rfl rfl)
theorem dX2_strike_4 : decode cX2_strike 4 = .ok (.iload_n 1, 1) := dk_27 (dk_at dksX2_strike_0 4 rfl rfl)
theorem dX2_strike_5 : decode cX2_strike 5 = .ok (.aaload, 1) := dk_50 (dk_at dksX2_strike_0 5 rfl rfl)
theorem dX2_strike_6 : decode cX2_strike 6 = .ok (.iload_n 2, 1) := dk_28 (dk_at dksX2_strike_0 6 rfl rfl)
theorem dX2_strike_7 : decode cX2_strike 7 = .ok (.invokevirtual 128, 3) := dk_182 0 128 (dk_at dksX2_strike_0 7 rfl rfl)
theorem dX2_strike_10 : decode cX2_strike 10 = .ok (.invokevirtual 132, 3) := dk_182 0 132 (dk_at dksX2_strike_0 10 rfl rfl)
theorem dX2_strike_13 : decode cX2_strike 13 = .ok (.aload_n 0, 1) := dk_42 (dk_at dksX2_strike_0 13 rfl rfl)
theorem dX2_strike_14 : decode cX2_strike 14 = .ok (.getfield 11, 3) := dk_180 0 11 (dk_at dksX2_strike_0 14 rfl rfl)
theorem dX2_strike_17 : decode cX2_strike 17 = .ok (.iload_n 1, 1) := dk_27 (dk_at dksX2_strike_0 17 rfl rfl)
theorem dX2_strike_18 : decode cX2_strike 18 = .ok (.aaload, 1) := dk_50 (dk_at dksX2_strike_0 18 rfl rfl)
theorem dX2_strike_19 : decode cX2_strike 19 = .ok (.dup, 1) := dk_89 (dk_at dksX2_strike_0 19 rfl rfl)
theorem dX2_strike_20 : decode cX2_strike 20 = .ok (.getfield 112, 3) := dk_180 0 112 (dk_at dksX2_strike_0 20 rfl rfl)
theorem dX2_strike_23 : decode cX2_strike 23 = .ok (.iload_n 2, 1) := dk_28 (dk_at dksX2_strike_0 23 rfl rfl)
theorem dX2_strike_24 : decode cX2_strike 24 = .ok (.iconst 3, 1) := dk_6 (dk_at dksX2_strike_1 0 rfl rfl)
theorem dX2_strike_25 : decode cX2_strike 25 = .ok (.if_icmp .eq 7, 3) := dk_159 0 7 (dk_at dksX2_strike_1 1 rfl rfl)
theorem dX2_strike_28 : decode cX2_strike 28 = .ok (.iconst 1, 1) := dk_4 (dk_at dksX2_strike_1 4 rfl rfl)
theorem dX2_strike_29 : decode cX2_strike 29 = .ok (.goto 4, 3) := dk_167 0 4 (dk_at dksX2_strike_1 5 rfl rfl)
theorem dX2_strike_32 : decode cX2_strike 32 = .ok (.iconst 0, 1) := dk_3 (dk_at dksX2_strike_1 8 rfl rfl)
theorem dX2_strike_33 : decode cX2_strike 33 = .ok (.iand, 1) := dk_126 (dk_at dksX2_strike_1 9 rfl rfl)
theorem dX2_strike_34 : decode cX2_strike 34 = .ok (.putfield 112, 3) := dk_181 0 112 (dk_at dksX2_strike_1 10 rfl rfl)
theorem dX2_strike_37 : decode cX2_strike 37 = .ok (.return_, 1) := dk_177 (dk_at dksX2_strike_1 13 rfl rfl)
abbrev cX2_signalAt : ByteArray := prog_9_method_19_code
def yX2_signalAt : MethodName := ⟨RX2, "signalAt", "(III)F"⟩
def dkwX2_signalAt_1 : List UInt8 := [182, 0, 169, 174]
abbrev dktX2_signalAt_1 : List UInt8 := dkwX2_signalAt_1 ++ []
def dkwX2_signalAt_0 : List UInt8 := [42, 27, 28, 42, 180, 0, 11, 27, 50, 180, 0, 73, 42, 180, 0, 11, 27, 50, 180, 0, 99, 29]
abbrev dktX2_signalAt_0 : List UInt8 := dkwX2_signalAt_0 ++ dktX2_signalAt_1
theorem dksX2_signalAt_0 : cX2_signalAt.data.toList.drop 0 = dktX2_signalAt_0 := by decide +kernel
theorem dksX2_signalAt_1 : cX2_signalAt.data.toList.drop 22 = dktX2_signalAt_1 := dk_seg dksX2_signalAt_0 22 rfl rfl
theorem dX2_signalAt_0 : decode cX2_signalAt 0 = .ok (.aload_n 0, 1) := dk_42 (dk_at dksX2_signalAt_0 0 rfl rfl)
theorem dX2_signalAt_1 : decode cX2_signalAt 1 = .ok (.iload_n 1, 1) := dk_27 (dk_at dksX2_signalAt_0 1 rfl rfl)
theorem dX2_signalAt_2 : decode cX2_signalAt 2 = .ok (.iload_n 2, 1) := dk_28 (dk_at dksX2_signalAt_0 2 rfl rfl)
theorem dX2_signalAt_3 : decode cX2_signalAt 3 = .ok (.aload_n 0, 1) := dk_42 (dk_at dksX2_signalAt_0 3 rfl rfl)
theorem dX2_signalAt_4 : decode cX2_signalAt 4 = .ok (.getfield 11, 3) := dk_180 0 11 (dk_at dksX2_signalAt_0 4 rfl rfl)
theorem dX2_signalAt_7 : decode cX2_signalAt 7 = .ok (.iload_n 1, 1) := dk_27 (dk_at dksX2_signalAt_0 7 rfl rfl)
theorem dX2_signalAt_8 : decode cX2_signalAt 8 = .ok (.aaload, 1) := dk_50 (dk_at dksX2_signalAt_0 8 rfl rfl)
theorem dX2_signalAt_9 : decode cX2_signalAt 9 = .ok (.getfield 73, 3) := dk_180 0 73 (dk_at dksX2_signalAt_0 9 rfl rfl)
theorem dX2_signalAt_12 : decode cX2_signalAt 12 = .ok (.aload_n 0, 1) := dk_42 (dk_at dksX2_signalAt_0 12 rfl rfl)
theorem dX2_signalAt_13 : decode cX2_signalAt 13 = .ok (.getfield 11, 3) := dk_180 0 11 (dk_at dksX2_signalAt_0 13 rfl rfl)
theorem dX2_signalAt_16 : decode cX2_signalAt 16 = .ok (.iload_n 1, 1) := dk_27 (dk_at dksX2_signalAt_0 16 rfl rfl)
theorem dX2_signalAt_17 : decode cX2_signalAt 17 = .ok (.aaload, 1) := dk_50 (dk_at dksX2_signalAt_0 17 rfl rfl)
theorem dX2_signalAt_18 : decode cX2_signalAt 18 = .ok (.getfield 99, 3) := dk_180 0 99 (dk_at dksX2_signalAt_0 18 rfl rfl)
theorem dX2_signalAt_21 : decode cX2_signalAt 21 = .ok (.iload_n 3, 1) := dk_29 (dk_at dksX2_signalAt_0 21 rfl rfl)
theorem dX2_signalAt_22 : decode cX2_signalAt 22 = .ok (.invokevirtual 169, 3) := dk_182 0 169 (dk_at dksX2_signalAt_1 0 rfl rfl)
theorem dX2_signalAt_25 : decode cX2_signalAt 25 = .ok (.freturn, 1) := dk_174 (dk_at dksX2_signalAt_1 3 rfl rfl)
abbrev cX2_retriesByGap : ByteArray := prog_9_method_23_code
def yX2_retriesByGap : MethodName := ⟨RX2, "retriesByGap", "(II)I"⟩
def dkwX2_retriesByGap_7 : List UInt8 := [167, 0, 7, 5, 21, 9, 104, 172, 132, 9, 1, 167, 255, 202, 2, 172]
abbrev dktX2_retriesByGap_7 : List UInt8 := dkwX2_retriesByGap_7 ++ []
def dkwX2_retriesByGap_6 : List UInt8 := [163, 0, 31, 21, 9, 154, 0, 7, 3, 167, 0, 21, 21, 7, 158, 0, 12, 5, 21, 9, 104, 4, 100]
abbrev dktX2_retriesByGap_6 : List UInt8 := dkwX2_retriesByGap_6 ++ dktX2_retriesByGap_7
def dkwX2_retriesByGap_5 : List UInt8 := [54, 9, 21, 9, 42, 180, 0, 24, 163, 0, 51, 21, 8, 8, 21, 9, 104, 184, 0, 200, 21, 6]
abbrev dktX2_retriesByGap_5 : List UInt8 := dkwX2_retriesByGap_5 ++ dktX2_retriesByGap_6
def dkwX2_retriesByGap_4 : List UInt8 := [28, 182, 0, 197, 100, 54, 7, 21, 7, 156, 0, 9, 21, 7, 116, 167, 0, 5, 21, 7, 54, 8, 3]
abbrev dktX2_retriesByGap_4 : List UInt8 := dkwX2_retriesByGap_4 ++ dktX2_retriesByGap_5
def dkwX2_retriesByGap_3 : List UInt8 := [184, 0, 191, 18, 176, 149, 155, 0, 9, 132, 6, 1, 167, 255, 229, 45, 180, 0, 194, 21, 4, 46, 42, 27]
abbrev dktX2_retriesByGap_3 : List UInt8 := dkwX2_retriesByGap_3 ++ dktX2_retriesByGap_4
def dkwX2_retriesByGap_2 : List UInt8 := [182, 0, 163, 56, 5, 2, 54, 6, 21, 6, 4, 96, 16, 20, 162, 0, 24, 23, 5, 21, 6, 4, 96]
abbrev dktX2_retriesByGap_2 : List UInt8 := dkwX2_retriesByGap_2 ++ dktX2_retriesByGap_3
def dkwX2_retriesByGap_1 : List UInt8 := [153, 0, 5, 2, 172, 42, 180, 0, 11, 27, 50, 28, 182, 0, 159, 45, 180, 0, 187, 21, 4, 48]
abbrev dktX2_retriesByGap_1 : List UInt8 := dkwX2_retriesByGap_1 ++ dktX2_retriesByGap_2
def dkwX2_retriesByGap_0 : List UInt8 := [42, 27, 28, 182, 0, 180, 78, 42, 180, 0, 11, 27, 50, 180, 0, 99, 54, 4, 45, 21, 4, 182, 0, 184]
abbrev dktX2_retriesByGap_0 : List UInt8 := dkwX2_retriesByGap_0 ++ dktX2_retriesByGap_1
theorem dksX2_retriesByGap_0 : cX2_retriesByGap.data.toList.drop 0 = dktX2_retriesByGap_0 := by decide +kernel
theorem dksX2_retriesByGap_1 : cX2_retriesByGap.data.toList.drop 24 = dktX2_retriesByGap_1 := dk_seg dksX2_retriesByGap_0 24 rfl rfl
theorem dksX2_retriesByGap_2 : cX2_retriesByGap.data.toList.drop 46 = dktX2_retriesByGap_2 := dk_seg dksX2_retriesByGap_1 22 rfl rfl
theorem dksX2_retriesByGap_3 : cX2_retriesByGap.data.toList.drop 69 = dktX2_retriesByGap_3 := dk_seg dksX2_retriesByGap_2 23 rfl rfl
theorem dksX2_retriesByGap_4 : cX2_retriesByGap.data.toList.drop 93 = dktX2_retriesByGap_4 := dk_seg dksX2_retriesByGap_3 24 rfl rfl
theorem dksX2_retriesByGap_5 : cX2_retriesByGap.data.toList.drop 116 = dktX2_retriesByGap_5 := dk_seg dksX2_retriesByGap_4 23 rfl rfl
theorem dksX2_retriesByGap_6 : cX2_retriesByGap.data.toList.drop 138 = dktX2_retriesByGap_6 := dk_seg dksX2_retriesByGap_5 22 rfl rfl
theorem dksX2_retriesByGap_7 : cX2_retriesByGap.data.toList.drop 161 = dktX2_retriesByGap_7 := dk_seg dksX2_retriesByGap_6 23 rfl rfl
theorem dX2_retriesByGap_0 : decode cX2_retriesByGap 0 = .ok (.aload_n 0, 1) := dk_42 (dk_at dksX2_retriesByGap_0 0 rfl rfl)
theorem dX2_retriesByGap_1 : decode cX2_retriesByGap 1 = .ok (.iload_n 1, 1) := dk_27 (dk_at dksX2_retriesByGap_0 1 rfl rfl)
theorem dX2_retriesByGap_2 : decode cX2_retriesByGap 2 = .ok (.iload_n 2, 1) := dk_28 (dk_at dksX2_retriesByGap_0 2 rfl rfl)
theorem dX2_retriesByGap_3 : decode cX2_retriesByGap 3 = .ok (.invokevirtual 180, 3) := dk_182 0 180 (dk_at dksX2_retriesByGap_0 3 rfl rfl)
theorem dX2_retriesByGap_6 : decode cX2_retriesByGap 6 = .ok (.astore_n 3, 1) := dk_78 (dk_at dksX2_retriesByGap_0 6 rfl rfl)
theorem dX2_retriesByGap_7 : decode cX2_retriesByGap 7 = .ok (.aload_n 0, 1) := dk_42 (dk_at dksX2_retriesByGap_0 7 rfl rfl)
theorem dX2_retriesByGap_8 : decode cX2_retriesByGap 8 = .ok (.getfield 11, 3) := dk_180 0 11 (dk_at dksX2_retriesByGap_0 8 rfl rfl)
theorem dX2_retriesByGap_11 : decode cX2_retriesByGap 11 = .ok (.iload_n 1, 1) := dk_27 (dk_at dksX2_retriesByGap_0 11 rfl rfl)
theorem dX2_retriesByGap_12 : decode cX2_retriesByGap 12 = .ok (.aaload, 1) := dk_50 (dk_at dksX2_retriesByGap_0 12 rfl rfl)
theorem dX2_retriesByGap_13 : decode cX2_retriesByGap 13 = .ok (.getfield 99, 3) := dk_180 0 99 (dk_at dksX2_retriesByGap_0 13 rfl rfl)
theorem dX2_retriesByGap_16 : decode cX2_retriesByGap 16 = .ok (.istore 4, 2) := dk_54 4 (dk_at dksX2_retriesByGap_0 16 rfl rfl)
theorem dX2_retriesByGap_18 : decode cX2_retriesByGap 18 = .ok (.aload_n 3, 1) := dk_45 (dk_at dksX2_retriesByGap_0 18 rfl rfl)
theorem dX2_retriesByGap_19 : decode cX2_retriesByGap 19 = .ok (.iload 4, 2) := dk_21 4 (dk_at dksX2_retriesByGap_0 19 rfl rfl)
theorem dX2_retriesByGap_21 : decode cX2_retriesByGap 21 = .ok (.invokevirtual 184, 3) := dk_182 0 184 (dk_at dksX2_retriesByGap_0 21 rfl rfl)
theorem dX2_retriesByGap_24 : decode cX2_retriesByGap 24 = .ok (.ifCond .eq 5, 3) := dk_153 0 5 (dk_at dksX2_retriesByGap_1 0 rfl rfl)
theorem dX2_retriesByGap_27 : decode cX2_retriesByGap 27 = .ok (.iconst (-1), 1) := dk_2 (dk_at dksX2_retriesByGap_1 3 rfl rfl)
theorem dX2_retriesByGap_28 : decode cX2_retriesByGap 28 = .ok (.ireturn, 1) := dk_172 (dk_at dksX2_retriesByGap_1 4 rfl rfl)
theorem dX2_retriesByGap_29 : decode cX2_retriesByGap 29 = .ok (.aload_n 0, 1) := dk_42 (dk_at dksX2_retriesByGap_1 5 rfl rfl)
theorem dX2_retriesByGap_30 : decode cX2_retriesByGap 30 = .ok (.getfield 11, 3) := dk_180 0 11 (dk_at dksX2_retriesByGap_1 6 rfl rfl)
theorem dX2_retriesByGap_33 : decode cX2_retriesByGap 33 = .ok (.iload_n 1, 1) := dk_27 (dk_at dksX2_retriesByGap_1 9 rfl rfl)
theorem dX2_retriesByGap_34 : decode cX2_retriesByGap 34 = .ok (.aaload, 1) := dk_50 (dk_at dksX2_retriesByGap_1 10 rfl rfl)
theorem dX2_retriesByGap_35 : decode cX2_retriesByGap 35 = .ok (.iload_n 2, 1) := dk_28 (dk_at dksX2_retriesByGap_1 11 rfl rfl)
theorem dX2_retriesByGap_36 : decode cX2_retriesByGap 36 = .ok (.invokevirtual 159, 3) := dk_182 0 159 (dk_at dksX2_retriesByGap_1 12 rfl rfl)
theorem dX2_retriesByGap_39 : decode cX2_retriesByGap 39 = .ok (.aload_n 3, 1) := dk_45 (dk_at dksX2_retriesByGap_1 15 rfl rfl)
theorem dX2_retriesByGap_40 : decode cX2_retriesByGap 40 = .ok (.getfield 187, 3) := dk_180 0 187 (dk_at dksX2_retriesByGap_1 16 rfl rfl)
theorem dX2_retriesByGap_43 : decode cX2_retriesByGap 43 = .ok (.iload 4, 2) := dk_21 4 (dk_at dksX2_retriesByGap_1 19 rfl rfl)
theorem dX2_retriesByGap_45 : decode cX2_retriesByGap 45 = .ok (.faload, 1) := dk_48 (dk_at dksX2_retriesByGap_1 21 rfl rfl)
theorem dX2_retriesByGap_46 : decode cX2_retriesByGap 46 = .ok (.invokevirtual 163, 3) := dk_182 0 163 (dk_at dksX2_retriesByGap_2 0 rfl rfl)
theorem dX2_retriesByGap_49 : decode cX2_retriesByGap 49 = .ok (.fstore 5, 2) := dk_56 5 (dk_at dksX2_retriesByGap_2 3 rfl rfl)
theorem dX2_retriesByGap_51 : decode cX2_retriesByGap 51 = .ok (.iconst (-1), 1) := dk_2 (dk_at dksX2_retriesByGap_2 5 rfl rfl)
theorem dX2_retriesByGap_52 : decode cX2_retriesByGap 52 = .ok (.istore 6, 2) := dk_54 6 (dk_at dksX2_retriesByGap_2 6 rfl rfl)
theorem dX2_retriesByGap_54 : decode cX2_retriesByGap 54 = .ok (.iload 6, 2) := dk_21 6 (dk_at dksX2_retriesByGap_2 8 rfl rfl)
theorem dX2_retriesByGap_56 : decode cX2_retriesByGap 56 = .ok (.iconst 1, 1) := dk_4 (dk_at dksX2_retriesByGap_2 10 rfl rfl)
theorem dX2_retriesByGap_57 : decode cX2_retriesByGap 57 = .ok (.iadd, 1) := dk_96 (dk_at dksX2_retriesByGap_2 11 rfl rfl)
theorem dX2_retriesByGap_58 : decode cX2_retriesByGap 58 = .ok (.bipush 20, 2) := dk_16 20 (dk_at dksX2_retriesByGap_2 12 rfl rfl)
theorem dX2_retriesByGap_60 : decode cX2_retriesByGap 60 = .ok (.if_icmp .ge 24, 3) := dk_162 0 24 (dk_at dksX2_retriesByGap_2 14 rfl rfl)
theorem dX2_retriesByGap_63 : decode cX2_retriesByGap 63 = .ok (.fload 5, 2) := dk_23 5 (dk_at dksX2_retriesByGap_2 17 rfl rfl)
theorem dX2_retriesByGap_65 : decode cX2_retriesByGap 65 = .ok (.iload 6, 2) := dk_21 6 (dk_at dksX2_retriesByGap_2 19 rfl rfl)
theorem dX2_retriesByGap_67 : decode cX2_retriesByGap 67 = .ok (.iconst 1, 1) := dk_4 (dk_at dksX2_retriesByGap_2 21 rfl rfl)
theorem dX2_retriesByGap_68 : decode cX2_retriesByGap 68 = .ok (.iadd, 1) := dk_96 (dk_at dksX2_retriesByGap_2 22 rfl rfl)
theorem dX2_retriesByGap_69 : decode cX2_retriesByGap 69 = .ok (.invokestatic 191, 3) := dk_184 0 191 (dk_at dksX2_retriesByGap_3 0 rfl rfl)
theorem dX2_retriesByGap_72 : decode cX2_retriesByGap 72 = .ok (.ldc 176, 2) := dk_18 176 (dk_at dksX2_retriesByGap_3 3 rfl rfl)
theorem dX2_retriesByGap_74 : decode cX2_retriesByGap 74 = .ok (.fcmp .l, 1) := dk_149 (dk_at dksX2_retriesByGap_3 5 rfl rfl)
theorem dX2_retriesByGap_75 : decode cX2_retriesByGap 75 = .ok (.ifCond .lt 9, 3) := dk_155 0 9 (dk_at dksX2_retriesByGap_3 6 rfl rfl)
theorem dX2_retriesByGap_78 : decode cX2_retriesByGap 78 = .ok (.iinc 6 1, 3) := dk_132 6 1 (dk_at dksX2_retriesByGap_3 9 rfl rfl)
theorem dX2_retriesByGap_81 : decode cX2_retriesByGap 81 = .ok (.goto (-27), 3) := dk_167 255 229 (dk_at dksX2_retriesByGap_3 12 rfl rfl)
theorem dX2_retriesByGap_84 : decode cX2_retriesByGap 84 = .ok (.aload_n 3, 1) := dk_45 (dk_at dksX2_retriesByGap_3 15 rfl rfl)
theorem dX2_retriesByGap_85 : decode cX2_retriesByGap 85 = .ok (.getfield 194, 3) := dk_180 0 194 (dk_at dksX2_retriesByGap_3 16 rfl rfl)
theorem dX2_retriesByGap_88 : decode cX2_retriesByGap 88 = .ok (.iload 4, 2) := dk_21 4 (dk_at dksX2_retriesByGap_3 19 rfl rfl)
theorem dX2_retriesByGap_90 : decode cX2_retriesByGap 90 = .ok (.iaload, 1) := dk_46 (dk_at dksX2_retriesByGap_3 21 rfl rfl)
theorem dX2_retriesByGap_91 : decode cX2_retriesByGap 91 = .ok (.aload_n 0, 1) := dk_42 (dk_at dksX2_retriesByGap_3 22 rfl rfl)
theorem dX2_retriesByGap_92 : decode cX2_retriesByGap 92 = .ok (.iload_n 1, 1) := dk_27 (dk_at dksX2_retriesByGap_3 23 rfl rfl)
theorem dX2_retriesByGap_93 : decode cX2_retriesByGap 93 = .ok (.iload_n 2, 1) := dk_28 (dk_at dksX2_retriesByGap_4 0 rfl rfl)
theorem dX2_retriesByGap_94 : decode cX2_retriesByGap 94 = .ok (.invokevirtual 197, 3) := dk_182 0 197 (dk_at dksX2_retriesByGap_4 1 rfl rfl)
theorem dX2_retriesByGap_97 : decode cX2_retriesByGap 97 = .ok (.isub, 1) := dk_100 (dk_at dksX2_retriesByGap_4 4 rfl rfl)
theorem dX2_retriesByGap_98 : decode cX2_retriesByGap 98 = .ok (.istore 7, 2) := dk_54 7 (dk_at dksX2_retriesByGap_4 5 rfl rfl)
theorem dX2_retriesByGap_100 : decode cX2_retriesByGap 100 = .ok (.iload 7, 2) := dk_21 7 (dk_at dksX2_retriesByGap_4 7 rfl rfl)
theorem dX2_retriesByGap_102 : decode cX2_retriesByGap 102 = .ok (.ifCond .ge 9, 3) := dk_156 0 9 (dk_at dksX2_retriesByGap_4 9 rfl rfl)
theorem dX2_retriesByGap_105 : decode cX2_retriesByGap 105 = .ok (.iload 7, 2) := dk_21 7 (dk_at dksX2_retriesByGap_4 12 rfl rfl)
theorem dX2_retriesByGap_107 : decode cX2_retriesByGap 107 = .ok (.ineg, 1) := dk_116 (dk_at dksX2_retriesByGap_4 14 rfl rfl)
theorem dX2_retriesByGap_108 : decode cX2_retriesByGap 108 = .ok (.goto 5, 3) := dk_167 0 5 (dk_at dksX2_retriesByGap_4 15 rfl rfl)
theorem dX2_retriesByGap_111 : decode cX2_retriesByGap 111 = .ok (.iload 7, 2) := dk_21 7 (dk_at dksX2_retriesByGap_4 18 rfl rfl)
theorem dX2_retriesByGap_113 : decode cX2_retriesByGap 113 = .ok (.istore 8, 2) := dk_54 8 (dk_at dksX2_retriesByGap_4 20 rfl rfl)
theorem dX2_retriesByGap_115 : decode cX2_retriesByGap 115 = .ok (.iconst 0, 1) := dk_3 (dk_at dksX2_retriesByGap_4 22 rfl rfl)
theorem dX2_retriesByGap_116 : decode cX2_retriesByGap 116 = .ok (.istore 9, 2) := dk_54 9 (dk_at dksX2_retriesByGap_5 0 rfl rfl)
theorem dX2_retriesByGap_118 : decode cX2_retriesByGap 118 = .ok (.iload 9, 2) := dk_21 9 (dk_at dksX2_retriesByGap_5 2 rfl rfl)
theorem dX2_retriesByGap_120 : decode cX2_retriesByGap 120 = .ok (.aload_n 0, 1) := dk_42 (dk_at dksX2_retriesByGap_5 4 rfl rfl)
theorem dX2_retriesByGap_121 : decode cX2_retriesByGap 121 = .ok (.getfield 24, 3) := dk_180 0 24 (dk_at dksX2_retriesByGap_5 5 rfl rfl)
theorem dX2_retriesByGap_124 : decode cX2_retriesByGap 124 = .ok (.if_icmp .gt 51, 3) := dk_163 0 51 (dk_at dksX2_retriesByGap_5 8 rfl rfl)
theorem dX2_retriesByGap_127 : decode cX2_retriesByGap 127 = .ok (.iload 8, 2) := dk_21 8 (dk_at dksX2_retriesByGap_5 11 rfl rfl)
theorem dX2_retriesByGap_129 : decode cX2_retriesByGap 129 = .ok (.iconst 5, 1) := dk_8 (dk_at dksX2_retriesByGap_5 13 rfl rfl)
theorem dX2_retriesByGap_130 : decode cX2_retriesByGap 130 = .ok (.iload 9, 2) := dk_21 9 (dk_at dksX2_retriesByGap_5 14 rfl rfl)
theorem dX2_retriesByGap_132 : decode cX2_retriesByGap 132 = .ok (.imul, 1) := dk_104 (dk_at dksX2_retriesByGap_5 16 rfl rfl)
theorem dX2_retriesByGap_133 : decode cX2_retriesByGap 133 = .ok (.invokestatic 200, 3) := dk_184 0 200 (dk_at dksX2_retriesByGap_5 17 rfl rfl)
theorem dX2_retriesByGap_136 : decode cX2_retriesByGap 136 = .ok (.iload 6, 2) := dk_21 6 (dk_at dksX2_retriesByGap_5 20 rfl rfl)
theorem dX2_retriesByGap_138 : decode cX2_retriesByGap 138 = .ok (.if_icmp .gt 31, 3) := dk_163 0 31 (dk_at dksX2_retriesByGap_6 0 rfl rfl)
theorem dX2_retriesByGap_141 : decode cX2_retriesByGap 141 = .ok (.iload 9, 2) := dk_21 9 (dk_at dksX2_retriesByGap_6 3 rfl rfl)
theorem dX2_retriesByGap_143 : decode cX2_retriesByGap 143 = .ok (.ifCond .ne 7, 3) := dk_154 0 7 (dk_at dksX2_retriesByGap_6 5 rfl rfl)
theorem dX2_retriesByGap_146 : decode cX2_retriesByGap 146 = .ok (.iconst 0, 1) := dk_3 (dk_at dksX2_retriesByGap_6 8 rfl rfl)
theorem dX2_retriesByGap_147 : decode cX2_retriesByGap 147 = .ok (.goto 21, 3) := dk_167 0 21 (dk_at dksX2_retriesByGap_6 9 rfl rfl)
theorem dX2_retriesByGap_150 : decode cX2_retriesByGap 150 = .ok (.iload 7, 2) := dk_21 7 (dk_at dksX2_retriesByGap_6 12 rfl rfl)
theorem dX2_retriesByGap_152 : decode cX2_retriesByGap 152 = .ok (.ifCond .le 12, 3) := dk_158 0 12 (dk_at dksX2_retriesByGap_6 14 rfl rfl)
theorem dX2_retriesByGap_155 : decode cX2_retriesByGap 155 = .ok (.iconst 2, 1) := dk_5 (dk_at dksX2_retriesByGap_6 17 rfl rfl)
theorem dX2_retriesByGap_156 : decode cX2_retriesByGap 156 = .ok (.iload 9, 2) := dk_21 9 (dk_at dksX2_retriesByGap_6 18 rfl rfl)
theorem dX2_retriesByGap_158 : decode cX2_retriesByGap 158 = .ok (.imul, 1) := dk_104 (dk_at dksX2_retriesByGap_6 20 rfl rfl)
theorem dX2_retriesByGap_159 : decode cX2_retriesByGap 159 = .ok (.iconst 1, 1) := dk_4 (dk_at dksX2_retriesByGap_6 21 rfl rfl)
theorem dX2_retriesByGap_160 : decode cX2_retriesByGap 160 = .ok (.isub, 1) := dk_100 (dk_at dksX2_retriesByGap_6 22 rfl rfl)
theorem dX2_retriesByGap_161 : decode cX2_retriesByGap 161 = .ok (.goto 7, 3) := dk_167 0 7 (dk_at dksX2_retriesByGap_7 0 rfl rfl)
theorem dX2_retriesByGap_164 : decode cX2_retriesByGap 164 = .ok (.iconst 2, 1) := dk_5 (dk_at dksX2_retriesByGap_7 3 rfl rfl)
theorem dX2_retriesByGap_165 : decode cX2_retriesByGap 165 = .ok (.iload 9, 2) := dk_21 9 (dk_at dksX2_retriesByGap_7 4 rfl rfl)
theorem dX2_retriesByGap_167 : decode cX2_retriesByGap 167 = .ok (.imul, 1) := dk_104 (dk_at dksX2_retriesByGap_7 6 rfl rfl)
theorem dX2_retriesByGap_168 : decode cX2_retriesByGap 168 = .ok (.ireturn, 1) := dk_172 (dk_at dksX2_retriesByGap_7 7 rfl rfl)
theorem dX2_retriesByGap_169 : decode cX2_retriesByGap 169 = .ok (.iinc 9 1, 3) := dk_132 9 1 (dk_at dksX2_retriesByGap_7 8 rfl rfl)
theorem dX2_retriesByGap_172 : decode cX2_retriesByGap 172 = .ok (.goto (-54), 3) := dk_167 255 202 (dk_at dksX2_retriesByGap_7 11 rfl rfl)
theorem dX2_retriesByGap_175 : decode cX2_retriesByGap 175 = .ok (.iconst (-1), 1) := dk_2 (dk_at dksX2_retriesByGap_7 14 rfl rfl)
theorem dX2_retriesByGap_176 : decode cX2_retriesByGap 176 = .ok (.ireturn, 1) := dk_172 (dk_at dksX2_retriesByGap_7 15 rfl rfl)
abbrev cX2_readableIn : ByteArray := prog_9_method_24_code
def yX2_readableIn : MethodName := ⟨RX2, "readableIn", "(II)I"⟩
def dkwX2_readableIn_2 : List UInt8 := [167, 255, 224, 132, 4, 1, 167, 255, 209, 29, 172]
abbrev dktX2_readableIn_2 : List UInt8 := dkwX2_readableIn_2 ++ []
def dkwX2_readableIn_1 : List UInt8 := [21, 4, 28, 21, 5, 182, 0, 177, 2, 159, 0, 7, 4, 167, 0, 4, 3, 96, 62, 132, 5, 1]
abbrev dktX2_readableIn_1 : List UInt8 := dkwX2_readableIn_1 ++ dktX2_readableIn_2
def dkwX2_readableIn_0 : List UInt8 := [3, 62, 3, 54, 4, 21, 4, 6, 162, 0, 47, 3, 54, 5, 21, 5, 16, 40, 162, 0, 31, 29, 42, 27]
abbrev dktX2_readableIn_0 : List UInt8 := dkwX2_readableIn_0 ++ dktX2_readableIn_1
theorem dksX2_readableIn_0 : cX2_readableIn.data.toList.drop 0 = dktX2_readableIn_0 := by decide +kernel
theorem dksX2_readableIn_1 : cX2_readableIn.data.toList.drop 24 = dktX2_readableIn_1 := dk_seg dksX2_readableIn_0 24 rfl rfl
theorem dksX2_readableIn_2 : cX2_readableIn.data.toList.drop 46 = dktX2_readableIn_2 := dk_seg dksX2_readableIn_1 22 rfl rfl
theorem dX2_readableIn_0 : decode cX2_readableIn 0 = .ok (.iconst 0, 1) := dk_3 (dk_at dksX2_readableIn_0 0 rfl rfl)
theorem dX2_readableIn_1 : decode cX2_readableIn 1 = .ok (.istore_n 3, 1) := dk_62 (dk_at dksX2_readableIn_0 1 rfl rfl)
theorem dX2_readableIn_2 : decode cX2_readableIn 2 = .ok (.iconst 0, 1) := dk_3 (dk_at dksX2_readableIn_0 2 rfl rfl)
theorem dX2_readableIn_3 : decode cX2_readableIn 3 = .ok (.istore 4, 2) := dk_54 4 (dk_at dksX2_readableIn_0 3 rfl rfl)
theorem dX2_readableIn_5 : decode cX2_readableIn 5 = .ok (.iload 4, 2) := dk_21 4 (dk_at dksX2_readableIn_0 5 rfl rfl)
theorem dX2_readableIn_7 : decode cX2_readableIn 7 = .ok (.iconst 3, 1) := dk_6 (dk_at dksX2_readableIn_0 7 rfl rfl)
theorem dX2_readableIn_8 : decode cX2_readableIn 8 = .ok (.if_icmp .ge 47, 3) := dk_162 0 47 (dk_at dksX2_readableIn_0 8 rfl rfl)
theorem dX2_readableIn_11 : decode cX2_readableIn 11 = .ok (.iconst 0, 1) := dk_3 (dk_at dksX2_readableIn_0 11 rfl rfl)
theorem dX2_readableIn_12 : decode cX2_readableIn 12 = .ok (.istore 5, 2) := dk_54 5 (dk_at dksX2_readableIn_0 12 rfl rfl)
theorem dX2_readableIn_14 : decode cX2_readableIn 14 = .ok (.iload 5, 2) := dk_21 5 (dk_at dksX2_readableIn_0 14 rfl rfl)
theorem dX2_readableIn_16 : decode cX2_readableIn 16 = .ok (.bipush 40, 2) := dk_16 40 (dk_at dksX2_readableIn_0 16 rfl rfl)
theorem dX2_readableIn_18 : decode cX2_readableIn 18 = .ok (.if_icmp .ge 31, 3) := dk_162 0 31 (dk_at dksX2_readableIn_0 18 rfl rfl)
theorem dX2_readableIn_21 : decode cX2_readableIn 21 = .ok (.iload_n 3, 1) := dk_29 (dk_at dksX2_readableIn_0 21 rfl rfl)
theorem dX2_readableIn_22 : decode cX2_readableIn 22 = .ok (.aload_n 0, 1) := dk_42 (dk_at dksX2_readableIn_0 22 rfl rfl)
theorem dX2_readableIn_23 : decode cX2_readableIn 23 = .ok (.iload_n 1, 1) := dk_27 (dk_at dksX2_readableIn_0 23 rfl rfl)
theorem dX2_readableIn_24 : decode cX2_readableIn 24 = .ok (.iload 4, 2) := dk_21 4 (dk_at dksX2_readableIn_1 0 rfl rfl)
theorem dX2_readableIn_26 : decode cX2_readableIn 26 = .ok (.iload_n 2, 1) := dk_28 (dk_at dksX2_readableIn_1 2 rfl rfl)
theorem dX2_readableIn_27 : decode cX2_readableIn 27 = .ok (.iload 5, 2) := dk_21 5 (dk_at dksX2_readableIn_1 3 rfl rfl)
theorem dX2_readableIn_29 : decode cX2_readableIn 29 = .ok (.invokevirtual 177, 3) := dk_182 0 177 (dk_at dksX2_readableIn_1 5 rfl rfl)
theorem dX2_readableIn_32 : decode cX2_readableIn 32 = .ok (.iconst (-1), 1) := dk_2 (dk_at dksX2_readableIn_1 8 rfl rfl)
theorem dX2_readableIn_33 : decode cX2_readableIn 33 = .ok (.if_icmp .eq 7, 3) := dk_159 0 7 (dk_at dksX2_readableIn_1 9 rfl rfl)
theorem dX2_readableIn_36 : decode cX2_readableIn 36 = .ok (.iconst 1, 1) := dk_4 (dk_at dksX2_readableIn_1 12 rfl rfl)
theorem dX2_readableIn_37 : decode cX2_readableIn 37 = .ok (.goto 4, 3) := dk_167 0 4 (dk_at dksX2_readableIn_1 13 rfl rfl)
theorem dX2_readableIn_40 : decode cX2_readableIn 40 = .ok (.iconst 0, 1) := dk_3 (dk_at dksX2_readableIn_1 16 rfl rfl)
theorem dX2_readableIn_41 : decode cX2_readableIn 41 = .ok (.iadd, 1) := dk_96 (dk_at dksX2_readableIn_1 17 rfl rfl)
theorem dX2_readableIn_42 : decode cX2_readableIn 42 = .ok (.istore_n 3, 1) := dk_62 (dk_at dksX2_readableIn_1 18 rfl rfl)
theorem dX2_readableIn_43 : decode cX2_readableIn 43 = .ok (.iinc 5 1, 3) := dk_132 5 1 (dk_at dksX2_readableIn_1 19 rfl rfl)
theorem dX2_readableIn_46 : decode cX2_readableIn 46 = .ok (.goto (-32), 3) := dk_167 255 224 (dk_at dksX2_readableIn_2 0 rfl rfl)
theorem dX2_readableIn_49 : decode cX2_readableIn 49 = .ok (.iinc 4 1, 3) := dk_132 4 1 (dk_at dksX2_readableIn_2 3 rfl rfl)
theorem dX2_readableIn_52 : decode cX2_readableIn 52 = .ok (.goto (-47), 3) := dk_167 255 209 (dk_at dksX2_readableIn_2 6 rfl rfl)
theorem dX2_readableIn_55 : decode cX2_readableIn 55 = .ok (.iload_n 3, 1) := dk_29 (dk_at dksX2_readableIn_2 9 rfl rfl)
theorem dX2_readableIn_56 : decode cX2_readableIn 56 = .ok (.ireturn, 1) := dk_172 (dk_at dksX2_readableIn_2 10 rfl rfl)
theorem q71 : (Jvm.Cond.initialized "DiskPacks$State") ∈ lw_all := lw_g (lw_at lw_m1 2 rfl) rfl
theorem q116 : (Jvm.Cond.instantiable "DiskPacks$State" (7 : Nat)) ∈ lw_all := lw_g (lw_at lw_m1 47 rfl) rfl
theorem q118 : (Jvm.Cond.instanceMethod ({ cls := "DiskPacks$State", name := "<init>", desc := "()V" } : Jvm.MethodName)) ∈ lw_all := lw_g (lw_at lw_m1 49 rfl) rfl
theorem q119 : (Jvm.Cond.code ({ cls := "DiskPacks$State", name := "<init>", desc := "()V" } : Jvm.MethodName) prog_9_method_1_code (2 : Nat) (Option.none : Option Jvm.ClassFile.FieldType)) ∈ lw_all := lw_g (lw_at lw_m1 50 rfl) rfl
theorem q120 : (Jvm.Cond.methodLink "DiskPacks$State" (3 : Nat) ({ cls := "java/lang/Object", name := "<init>", desc := "()V" } : Jvm.MethodName)) ∈ lw_all := lw_g (lw_at lw_m1 51 rfl) rfl
theorem q121 : (Jvm.Cond.classLink "DiskPacks$State" (9 : Nat) "DiskPacks$Drive") ∈ lw_all := lw_g (lw_at lw_m1 52 rfl) rfl
theorem q123 : (Jvm.Cond.classLink "DiskPacks$State" (17 : Nat) "java/util/ArrayList") ∈ lw_all := lw_g (lw_at lw_m1 54 rfl) rfl
theorem q125 : (Jvm.Cond.methodLink "DiskPacks$State" (19 : Nat) ({ cls := "java/util/ArrayList", name := "<init>", desc := "()V" } : Jvm.MethodName)) ∈ lw_all := lw_g (lw_at lw_m1 56 rfl) rfl
theorem q150 : (Jvm.Cond.methodLink "DiskPacks$State" (35 : Nat) ({ cls := "DiskPacks$Drive", name := "<init>", desc := "()V" } : Jvm.MethodName)) ∈ lw_all := lw_g (lw_at lw_m1 81 rfl) rfl
theorem q167 : (Jvm.Cond.fieldLink "DiskPacks$State" (119 : Nat) "DiskPacks$Head" "offset" "I") ∈ lw_all := lw_g (lw_at lw_m1 98 rfl) rfl
theorem q172 : (Jvm.Cond.fieldLink "DiskPacks$State" (106 : Nat) "DiskPacks$Head" "isStruck" "Z") ∈ lw_all := lw_g (lw_at lw_m1 103 rfl) rfl
theorem q174 : (Jvm.Cond.fieldLink "DiskPacks$State" (203 : Nat) "DiskPacks$DataHead" "isStruck" "Z") ∈ lw_all := lw_g (lw_at lw_m1 105 rfl) rfl
theorem q176 : (Jvm.Cond.fieldLink "DiskPacks$State" (210 : Nat) "DiskPacks$DataHead" "badPasses" "I") ∈ lw_all := lw_g (lw_at lw_m1 107 rfl) rfl
theorem q275 : (Jvm.Cond.fieldLink "DiskPacks$State" (102 : Nat) "DiskPacks$Drive" "servoHead" "LDiskPacks$Head;") ∈ lw_all := lw_g (lw_at lw_m1 206 rfl) rfl
theorem q280 : (Jvm.Cond.fieldLink "DiskPacks$State" (122 : Nat) "DiskPacks$Drive" "warmth" "I") ∈ lw_all := lw_g (lw_at lw_m1 211 rfl) rfl
theorem q283 : (Jvm.Cond.fieldLink "DiskPacks$State" (99 : Nat) "DiskPacks$Drive" "cylinder" "I") ∈ lw_all := lw_g (lw_at lw_m1 214 rfl) rfl
theorem q286 : (Jvm.Cond.fieldLink "DiskPacks$State" (112 : Nat) "DiskPacks$Drive" "isServoOn" "Z") ∈ lw_all := lw_g (lw_at lw_m1 217 rfl) rfl
theorem q289 : (Jvm.Cond.fieldLink "DiskPacks$State" (73 : Nat) "DiskPacks$Drive" "pack" "I") ∈ lw_all := lw_g (lw_at lw_m1 220 rfl) rfl
theorem q306 : (Jvm.Cond.fieldLink "DiskPacks$State" (11 : Nat) "DiskPacks$State" "drives" "[LDiskPacks$Drive;") ∈ lw_all := lw_g (lw_at lw_m1 237 rfl) rfl
theorem q308 : (Jvm.Cond.fieldLink "DiskPacks$State" (20 : Nat) "DiskPacks$State" "packs" "Ljava/util/List;") ∈ lw_all := lw_g (lw_at lw_m1 239 rfl) rfl
theorem q310 : (Jvm.Cond.fieldLink "DiskPacks$State" (28 : Nat) "DiskPacks$State" "retriesOfDrives" "[I") ∈ lw_all := lw_g (lw_at lw_m2 1 rfl) rfl
theorem q312 : (Jvm.Cond.fieldLink "DiskPacks$State" (32 : Nat) "DiskPacks$State" "retriesOfPacks" "[I") ∈ lw_all := lw_g (lw_at lw_m2 3 rfl) rfl
theorem q314 : (Jvm.Cond.fieldLink "DiskPacks$State" (24 : Nat) "DiskPacks$State" "tries" "I") ∈ lw_all := lw_g (lw_at lw_m2 5 rfl) rfl
theorem q316 : (Jvm.Cond.fieldLink "DiskPacks$State" (41 : Nat) "DiskPacks$State" "reads" "I") ∈ lw_all := lw_g (lw_at lw_m2 7 rfl) rfl
theorem q318 : (Jvm.Cond.fieldLink "DiskPacks$State" (44 : Nat) "DiskPacks$State" "failures" "I") ∈ lw_all := lw_g (lw_at lw_m2 9 rfl) rfl
theorem q320 : (Jvm.Cond.laysFinal "DiskPacks$State" "DiskPacks$State" "drives" "[LDiskPacks$Drive;") ∈ lw_all := lw_g (lw_at lw_m2 11 rfl) rfl
theorem q321 : (Jvm.Cond.soleField "DiskPacks$State" "drives") ∈ lw_all := lw_g (lw_at lw_m2 12 rfl) rfl
theorem q322 : (Jvm.Cond.laysFinal "DiskPacks$State" "DiskPacks$State" "packs" "Ljava/util/List;") ∈ lw_all := lw_g (lw_at lw_m2 13 rfl) rfl
theorem q323 : (Jvm.Cond.soleField "DiskPacks$State" "packs") ∈ lw_all := lw_g (lw_at lw_m2 14 rfl) rfl
theorem q324 : (Jvm.Cond.laysFinal "DiskPacks$State" "DiskPacks$State" "retriesOfDrives" "[I") ∈ lw_all := lw_g (lw_at lw_m2 15 rfl) rfl
theorem q325 : (Jvm.Cond.soleField "DiskPacks$State" "retriesOfDrives") ∈ lw_all := lw_g (lw_at lw_m2 16 rfl) rfl
theorem q326 : (Jvm.Cond.laysFinal "DiskPacks$State" "DiskPacks$State" "retriesOfPacks" "[I") ∈ lw_all := lw_g (lw_at lw_m2 17 rfl) rfl
theorem q327 : (Jvm.Cond.soleField "DiskPacks$State" "retriesOfPacks") ∈ lw_all := lw_g (lw_at lw_m2 18 rfl) rfl
theorem q328 : (Jvm.Cond.lays "DiskPacks$State" "DiskPacks$State" "tries" "I") ∈ lw_all := lw_g (lw_at lw_m2 19 rfl) rfl
theorem q329 : (Jvm.Cond.soleField "DiskPacks$State" "tries") ∈ lw_all := lw_g (lw_at lw_m2 20 rfl) rfl
theorem q330 : (Jvm.Cond.lays "DiskPacks$State" "DiskPacks$State" "reads" "I") ∈ lw_all := lw_g (lw_at lw_m2 21 rfl) rfl
theorem q331 : (Jvm.Cond.soleField "DiskPacks$State" "reads") ∈ lw_all := lw_g (lw_at lw_m2 22 rfl) rfl
theorem q332 : (Jvm.Cond.lays "DiskPacks$State" "DiskPacks$State" "failures" "I") ∈ lw_all := lw_g (lw_at lw_m2 23 rfl) rfl
theorem q333 : (Jvm.Cond.soleField "DiskPacks$State" "failures") ∈ lw_all := lw_g (lw_at lw_m2 24 rfl) rfl
theorem q334 : (Jvm.Cond.superclass "DiskPacks$State" "java/lang/Object") ∈ lw_all := lw_g (lw_at lw_m2 25 rfl) rfl
theorem q802 : (Jvm.Cond.instanceMethod ({ cls := "DiskPacks$State", name := "mount", desc := "(II)Z" } : Jvm.MethodName)) ∈ lw_all := lw_g (lw_at lw_m4 13 rfl) rfl
theorem q803 : (Jvm.Cond.selects "DiskPacks$State" ({ cls := "DiskPacks$State", name := "mount", desc := "(II)Z" } : Jvm.MethodName) ({ cls := "DiskPacks$State", name := "mount", desc := "(II)Z" } : Jvm.MethodName)) ∈ lw_all := lw_g (lw_at lw_m4 14 rfl) rfl
theorem q804 : (Jvm.Cond.code ({ cls := "DiskPacks$State", name := "mount", desc := "(II)Z" } : Jvm.MethodName) prog_9_method_6_code (4 : Nat) (Option.some Jvm.ClassFile.FieldType.boolean)) ∈ lw_all := lw_g (lw_at lw_m4 15 rfl) rfl
theorem q805 : (Jvm.Cond.methodLink "DiskPacks$State" (88 : Nat) ({ cls := "DiskPacks$State", name := "canMount", desc := "(II)Z" } : Jvm.MethodName)) ∈ lw_all := lw_g (lw_at lw_m4 16 rfl) rfl
theorem q806 : (Jvm.Cond.instanceMethod ({ cls := "DiskPacks$State", name := "canMount", desc := "(II)Z" } : Jvm.MethodName)) ∈ lw_all := lw_g (lw_at lw_m4 17 rfl) rfl
theorem q807 : (Jvm.Cond.selects "DiskPacks$State" ({ cls := "DiskPacks$State", name := "canMount", desc := "(II)Z" } : Jvm.MethodName) ({ cls := "DiskPacks$State", name := "canMount", desc := "(II)Z" } : Jvm.MethodName)) ∈ lw_all := lw_g (lw_at lw_m4 18 rfl) rfl
theorem q808 : (Jvm.Cond.code ({ cls := "DiskPacks$State", name := "canMount", desc := "(II)Z" } : Jvm.MethodName) prog_9_method_5_code (4 : Nat) (Option.some Jvm.ClassFile.FieldType.boolean)) ∈ lw_all := lw_g (lw_at lw_m4 19 rfl) rfl
theorem q809 : (Jvm.Cond.classLink "DiskPacks$State" (76 : Nat) "DiskPacks$Reason") ∈ lw_all := lw_g (lw_at lw_m4 20 rfl) rfl
theorem q811 : (Jvm.Cond.privateMethod ({ cls := "DiskPacks$State", name := "lambda$canMount$0", desc := "(I)Z" } : Jvm.MethodName)) ∈ lw_tbl := lw_at lw_m4 22 rfl
theorem q812 : (Jvm.Cond.instanceMethod ({ cls := "DiskPacks$State", name := "lambda$canMount$0", desc := "(I)Z" } : Jvm.MethodName)) ∈ lw_all := lw_g (lw_at lw_m4 23 rfl) rfl
theorem q813 : (Jvm.Cond.code ({ cls := "DiskPacks$State", name := "lambda$canMount$0", desc := "(I)Z" } : Jvm.MethodName) prog_9_method_32_code (2 : Nat) (Option.some Jvm.ClassFile.FieldType.boolean)) ∈ lw_all := lw_g (lw_at lw_m4 24 rfl) rfl
theorem q814 : (Jvm.Cond.interfaceEntry "DiskPacks$State" (51 : Nat)) ∈ lw_tbl := lw_at lw_m4 25 rfl
theorem q815 : (Jvm.Cond.methodLink "DiskPacks$State" (51 : Nat) ({ cls := "java/util/List", name := "size", desc := "()I" } : Jvm.MethodName)) ∈ lw_all := lw_g (lw_at lw_m4 26 rfl) rfl
theorem q816 : (Jvm.Cond.privateMethod ({ cls := "DiskPacks$State", name := "lambda$canMount$1", desc := "(I)Z" } : Jvm.MethodName)) ∈ lw_tbl := lw_at lw_m4 27 rfl
theorem q817 : (Jvm.Cond.instanceMethod ({ cls := "DiskPacks$State", name := "lambda$canMount$1", desc := "(I)Z" } : Jvm.MethodName)) ∈ lw_all := lw_g (lw_at lw_m4 28 rfl) rfl
theorem q818 : (Jvm.Cond.code ({ cls := "DiskPacks$State", name := "lambda$canMount$1", desc := "(I)Z" } : Jvm.MethodName) prog_9_method_31_code (2 : Nat) (Option.some Jvm.ClassFile.FieldType.boolean)) ∈ lw_all := lw_g (lw_at lw_m4 29 rfl) rfl
theorem q819 : (Jvm.Cond.methodLink "DiskPacks$State" (95 : Nat) ({ cls := "DiskPacks$State", name := "hasPack", desc := "(I)Z" } : Jvm.MethodName)) ∈ lw_all := lw_g (lw_at lw_m4 30 rfl) rfl
theorem q820 : (Jvm.Cond.instanceMethod ({ cls := "DiskPacks$State", name := "hasPack", desc := "(I)Z" } : Jvm.MethodName)) ∈ lw_all := lw_g (lw_at lw_m4 31 rfl) rfl
theorem q821 : (Jvm.Cond.selects "DiskPacks$State" ({ cls := "DiskPacks$State", name := "hasPack", desc := "(I)Z" } : Jvm.MethodName) ({ cls := "DiskPacks$State", name := "hasPack", desc := "(I)Z" } : Jvm.MethodName)) ∈ lw_all := lw_g (lw_at lw_m4 32 rfl) rfl
theorem q822 : (Jvm.Cond.code ({ cls := "DiskPacks$State", name := "hasPack", desc := "(I)Z" } : Jvm.MethodName) prog_9_method_4_code (2 : Nat) (Option.some Jvm.ClassFile.FieldType.boolean)) ∈ lw_all := lw_g (lw_at lw_m4 33 rfl) rfl
theorem q823 : (Jvm.Cond.privateMethod ({ cls := "DiskPacks$State", name := "lambda$canMount$2", desc := "(I)Z" } : Jvm.MethodName)) ∈ lw_tbl := lw_at lw_m4 34 rfl
theorem q824 : (Jvm.Cond.instanceMethod ({ cls := "DiskPacks$State", name := "lambda$canMount$2", desc := "(I)Z" } : Jvm.MethodName)) ∈ lw_all := lw_g (lw_at lw_m4 35 rfl) rfl
theorem q825 : (Jvm.Cond.code ({ cls := "DiskPacks$State", name := "lambda$canMount$2", desc := "(I)Z" } : Jvm.MethodName) prog_9_method_30_code (2 : Nat) (Option.some Jvm.ClassFile.FieldType.boolean)) ∈ lw_all := lw_g (lw_at lw_m4 36 rfl) rfl
theorem q826 : (Jvm.Cond.interfaceEntry "DiskPacks$State" (57 : Nat)) ∈ lw_tbl := lw_at lw_m4 37 rfl
theorem q827 : (Jvm.Cond.methodLink "DiskPacks$State" (57 : Nat) ({ cls := "java/util/List", name := "get", desc := "(I)Ljava/lang/Object;" } : Jvm.MethodName)) ∈ lw_all := lw_g (lw_at lw_m4 38 rfl) rfl
theorem q843 : (Jvm.Cond.classLink "DiskPacks$State" (61 : Nat) "DiskPacks$Pack") ∈ lw_all := lw_g (lw_at lw_m4 54 rfl) rfl
theorem q844 : (Jvm.Cond.methodLinkNest "DiskPacks$State" (84 : Nat) ({ cls := "DiskPacks", name := "none", desc := "([LDiskPacks$Reason;)Z" } : Jvm.MethodName) "DiskPacks") ∈ lw_tbl := lw_at lw_m4 55 rfl
theorem q858 : (Jvm.Cond.instanceMethod ({ cls := "DiskPacks$State", name := "unmount", desc := "(I)Z" } : Jvm.MethodName)) ∈ lw_all := lw_g (lw_at lw_m4 69 rfl) rfl
theorem q859 : (Jvm.Cond.selects "DiskPacks$State" ({ cls := "DiskPacks$State", name := "unmount", desc := "(I)Z" } : Jvm.MethodName) ({ cls := "DiskPacks$State", name := "unmount", desc := "(I)Z" } : Jvm.MethodName)) ∈ lw_all := lw_g (lw_at lw_m4 70 rfl) rfl
theorem q860 : (Jvm.Cond.code ({ cls := "DiskPacks$State", name := "unmount", desc := "(I)Z" } : Jvm.MethodName) prog_9_method_7_code (3 : Nat) (Option.some Jvm.ClassFile.FieldType.boolean)) ∈ lw_all := lw_g (lw_at lw_m4 71 rfl) rfl
theorem q868 : (Jvm.Cond.instanceMethod ({ cls := "DiskPacks$State", name := "seek", desc := "(II)Z" } : Jvm.MethodName)) ∈ lw_all := lw_g (lw_at lw_m4 79 rfl) rfl
theorem q869 : (Jvm.Cond.selects "DiskPacks$State" ({ cls := "DiskPacks$State", name := "seek", desc := "(II)Z" } : Jvm.MethodName) ({ cls := "DiskPacks$State", name := "seek", desc := "(II)Z" } : Jvm.MethodName)) ∈ lw_all := lw_g (lw_at lw_m4 80 rfl) rfl
theorem q870 : (Jvm.Cond.code ({ cls := "DiskPacks$State", name := "seek", desc := "(II)Z" } : Jvm.MethodName) prog_9_method_8_code (4 : Nat) (Option.some Jvm.ClassFile.FieldType.boolean)) ∈ lw_all := lw_g (lw_at lw_m4 81 rfl) rfl
theorem q878 : (Jvm.Cond.instanceMethod ({ cls := "DiskPacks$State", name := "write", desc := "(III)Z" } : Jvm.MethodName)) ∈ lw_all := lw_g (lw_at lw_m4 89 rfl) rfl
theorem q879 : (Jvm.Cond.selects "DiskPacks$State" ({ cls := "DiskPacks$State", name := "write", desc := "(III)Z" } : Jvm.MethodName) ({ cls := "DiskPacks$State", name := "write", desc := "(III)Z" } : Jvm.MethodName)) ∈ lw_all := lw_g (lw_at lw_m4 90 rfl) rfl
theorem q880 : (Jvm.Cond.code ({ cls := "DiskPacks$State", name := "write", desc := "(III)Z" } : Jvm.MethodName) prog_9_method_26_code (6 : Nat) (Option.some Jvm.ClassFile.FieldType.boolean)) ∈ lw_all := lw_g (lw_at lw_m4 91 rfl) rfl
theorem q881 : (Jvm.Cond.methodLink "DiskPacks$State" (159 : Nat) ({ cls := "DiskPacks$Drive", name := "dataHead", desc := "(I)LDiskPacks$DataHead;" } : Jvm.MethodName)) ∈ lw_all := lw_g (lw_at lw_m4 92 rfl) rfl
theorem q889 : (Jvm.Cond.methodLink "DiskPacks$State" (163 : Nat) ({ cls := "DiskPacks$DataHead", name := "weakened", desc := "(F)F" } : Jvm.MethodName)) ∈ lw_all := lw_g (lw_at lw_m4 100 rfl) rfl
theorem q893 : (Jvm.Cond.methodLink "DiskPacks$State" (180 : Nat) ({ cls := "DiskPacks$State", name := "surface", desc := "(II)LDiskPacks$Surface;" } : Jvm.MethodName)) ∈ lw_all := lw_g (lw_at lw_m4 104 rfl) rfl
theorem q894 : (Jvm.Cond.instanceMethod ({ cls := "DiskPacks$State", name := "surface", desc := "(II)LDiskPacks$Surface;" } : Jvm.MethodName)) ∈ lw_all := lw_g (lw_at lw_m4 105 rfl) rfl
theorem q895 : (Jvm.Cond.selects "DiskPacks$State" ({ cls := "DiskPacks$State", name := "surface", desc := "(II)LDiskPacks$Surface;" } : Jvm.MethodName) ({ cls := "DiskPacks$State", name := "surface", desc := "(II)LDiskPacks$Surface;" } : Jvm.MethodName)) ∈ lw_all := lw_g (lw_at lw_m4 106 rfl) rfl
theorem q896 : (Jvm.Cond.code ({ cls := "DiskPacks$State", name := "surface", desc := "(II)LDiskPacks$Surface;" } : Jvm.MethodName) prog_9_method_17_code (3 : Nat) (Option.some (Jvm.ClassFile.FieldType.object "DiskPacks$Surface"))) ∈ lw_all := lw_g (lw_at lw_m4 107 rfl) rfl
theorem q897 : (Jvm.Cond.methodLink "DiskPacks$State" (197 : Nat) ({ cls := "DiskPacks$State", name := "place", desc := "(II)I" } : Jvm.MethodName)) ∈ lw_all := lw_g (lw_at lw_m4 108 rfl) rfl
theorem q898 : (Jvm.Cond.instanceMethod ({ cls := "DiskPacks$State", name := "place", desc := "(II)I" } : Jvm.MethodName)) ∈ lw_all := lw_g (lw_at lw_m4 109 rfl) rfl
theorem q899 : (Jvm.Cond.selects "DiskPacks$State" ({ cls := "DiskPacks$State", name := "place", desc := "(II)I" } : Jvm.MethodName) ({ cls := "DiskPacks$State", name := "place", desc := "(II)I" } : Jvm.MethodName)) ∈ lw_all := lw_g (lw_at lw_m4 110 rfl) rfl
theorem q900 : (Jvm.Cond.code ({ cls := "DiskPacks$State", name := "place", desc := "(II)I" } : Jvm.MethodName) prog_9_method_16_code (3 : Nat) (Option.some Jvm.ClassFile.FieldType.int)) ∈ lw_all := lw_g (lw_at lw_m4 111 rfl) rfl
theorem q901 : (Jvm.Cond.methodLink "DiskPacks$State" (148 : Nat) ({ cls := "DiskPacks$State", name := "place", desc := "(IIII)I" } : Jvm.MethodName)) ∈ lw_all := lw_g (lw_at lw_m4 112 rfl) rfl
theorem q902 : (Jvm.Cond.instanceMethod ({ cls := "DiskPacks$State", name := "place", desc := "(IIII)I" } : Jvm.MethodName)) ∈ lw_all := lw_g (lw_at lw_m4 113 rfl) rfl
theorem q903 : (Jvm.Cond.selects "DiskPacks$State" ({ cls := "DiskPacks$State", name := "place", desc := "(IIII)I" } : Jvm.MethodName) ({ cls := "DiskPacks$State", name := "place", desc := "(IIII)I" } : Jvm.MethodName)) ∈ lw_all := lw_g (lw_at lw_m4 114 rfl) rfl
theorem q904 : (Jvm.Cond.code ({ cls := "DiskPacks$State", name := "place", desc := "(IIII)I" } : Jvm.MethodName) prog_9_method_15_code (5 : Nat) (Option.some Jvm.ClassFile.FieldType.int)) ∈ lw_all := lw_g (lw_at lw_m4 115 rfl) rfl
theorem q905 : (Jvm.Cond.methodLink "DiskPacks$State" (144 : Nat) ({ cls := "DiskPacks$Drive", name := "place", desc := "(IIII)I" } : Jvm.MethodName)) ∈ lw_all := lw_g (lw_at lw_m4 116 rfl) rfl
theorem q909 : (Jvm.Cond.methodLink "DiskPacks$State" (214 : Nat) ({ cls := "DiskPacks$Surface", name := "write", desc := "(IIIF)V" } : Jvm.MethodName)) ∈ lw_all := lw_g (lw_at lw_m4 120 rfl) rfl
theorem q921 : (Jvm.Cond.methodLink "DiskPacks$State" (218 : Nat) ({ cls := "DiskPacks$State", name := "fly", desc := "(II)V" } : Jvm.MethodName)) ∈ lw_all := lw_g (lw_at lw_m4 132 rfl) rfl
theorem q922 : (Jvm.Cond.privateMethod ({ cls := "DiskPacks$State", name := "fly", desc := "(II)V" } : Jvm.MethodName)) ∈ lw_tbl := lw_at lw_m4 133 rfl
theorem q923 : (Jvm.Cond.instanceMethod ({ cls := "DiskPacks$State", name := "fly", desc := "(II)V" } : Jvm.MethodName)) ∈ lw_all := lw_g (lw_at lw_m4 134 rfl) rfl
theorem q924 : (Jvm.Cond.code ({ cls := "DiskPacks$State", name := "fly", desc := "(II)V" } : Jvm.MethodName) prog_9_method_25_code (5 : Nat) (Option.none : Option Jvm.ClassFile.FieldType)) ∈ lw_all := lw_g (lw_at lw_m4 135 rfl) rfl
theorem q925 : (Jvm.Cond.methodLink "DiskPacks$State" (207 : Nat) ({ cls := "DiskPacks$Surface", name := "halve", desc := "(I)V" } : Jvm.MethodName)) ∈ lw_all := lw_g (lw_at lw_m4 136 rfl) rfl
theorem q929 : (Jvm.Cond.methodLink "DiskPacks$State" (213 : Nat) ({ cls := "DiskPacks$DataHead", name := "strike", desc := "()V" } : Jvm.MethodName)) ∈ lw_all := lw_g (lw_at lw_m4 140 rfl) rfl
theorem q943 : (Jvm.Cond.instanceMethod ({ cls := "DiskPacks$State", name := "read", desc := "(II)I" } : Jvm.MethodName)) ∈ lw_all := lw_g (lw_at lw_m4 154 rfl) rfl
theorem q944 : (Jvm.Cond.selects "DiskPacks$State" ({ cls := "DiskPacks$State", name := "read", desc := "(II)I" } : Jvm.MethodName) ({ cls := "DiskPacks$State", name := "read", desc := "(II)I" } : Jvm.MethodName)) ∈ lw_all := lw_g (lw_at lw_m4 155 rfl) rfl
theorem q945 : (Jvm.Cond.code ({ cls := "DiskPacks$State", name := "read", desc := "(II)I" } : Jvm.MethodName) prog_9_method_27_code (7 : Nat) (Option.some Jvm.ClassFile.FieldType.int)) ∈ lw_all := lw_g (lw_at lw_m4 156 rfl) rfl
theorem q946 : (Jvm.Cond.methodLink "DiskPacks$State" (222 : Nat) ({ cls := "DiskPacks$State", name := "retries", desc := "(II)I" } : Jvm.MethodName)) ∈ lw_all := lw_g (lw_at lw_m4 157 rfl) rfl
theorem q947 : (Jvm.Cond.instanceMethod ({ cls := "DiskPacks$State", name := "retries", desc := "(II)I" } : Jvm.MethodName)) ∈ lw_all := lw_g (lw_at lw_m4 158 rfl) rfl
theorem q948 : (Jvm.Cond.selects "DiskPacks$State" ({ cls := "DiskPacks$State", name := "retries", desc := "(II)I" } : Jvm.MethodName) ({ cls := "DiskPacks$State", name := "retries", desc := "(II)I" } : Jvm.MethodName)) ∈ lw_all := lw_g (lw_at lw_m4 159 rfl) rfl
theorem q949 : (Jvm.Cond.code ({ cls := "DiskPacks$State", name := "retries", desc := "(II)I" } : Jvm.MethodName) prog_9_method_22_code (3 : Nat) (Option.some Jvm.ClassFile.FieldType.int)) ∈ lw_all := lw_g (lw_at lw_m4 160 rfl) rfl
theorem q950 : (Jvm.Cond.methodLink "DiskPacks$State" (177 : Nat) ({ cls := "DiskPacks$State", name := "retries", desc := "(IIII)I" } : Jvm.MethodName)) ∈ lw_all := lw_g (lw_at lw_m4 161 rfl) rfl
theorem q951 : (Jvm.Cond.instanceMethod ({ cls := "DiskPacks$State", name := "retries", desc := "(IIII)I" } : Jvm.MethodName)) ∈ lw_all := lw_g (lw_at lw_m4 162 rfl) rfl
theorem q952 : (Jvm.Cond.selects "DiskPacks$State" ({ cls := "DiskPacks$State", name := "retries", desc := "(IIII)I" } : Jvm.MethodName) ({ cls := "DiskPacks$State", name := "retries", desc := "(IIII)I" } : Jvm.MethodName)) ∈ lw_all := lw_g (lw_at lw_m4 163 rfl) rfl
theorem q953 : (Jvm.Cond.code ({ cls := "DiskPacks$State", name := "retries", desc := "(IIII)I" } : Jvm.MethodName) prog_9_method_21_code (6 : Nat) (Option.some Jvm.ClassFile.FieldType.int)) ∈ lw_all := lw_g (lw_at lw_m4 164 rfl) rfl
theorem q954 : (Jvm.Cond.methodLink "DiskPacks$State" (173 : Nat) ({ cls := "DiskPacks$State", name := "offset", desc := "(I)I" } : Jvm.MethodName)) ∈ lw_all := lw_g (lw_at lw_m4 165 rfl) rfl
theorem q955 : (Jvm.Cond.static ({ cls := "DiskPacks$State", name := "offset", desc := "(I)I" } : Jvm.MethodName)) ∈ lw_all := lw_g (lw_at lw_m4 166 rfl) rfl
theorem q956 : (Jvm.Cond.code ({ cls := "DiskPacks$State", name := "offset", desc := "(I)I" } : Jvm.MethodName) prog_9_method_20_code (2 : Nat) (Option.some Jvm.ClassFile.FieldType.int)) ∈ lw_all := lw_g (lw_at lw_m4 167 rfl) rfl
theorem q957 : (Jvm.Cond.methodLink "DiskPacks$State" (169 : Nat) ({ cls := "DiskPacks$State", name := "signal", desc := "(IIIII)F" } : Jvm.MethodName)) ∈ lw_all := lw_g (lw_at lw_m4 168 rfl) rfl
theorem q958 : (Jvm.Cond.privateMethod ({ cls := "DiskPacks$State", name := "signal", desc := "(IIIII)F" } : Jvm.MethodName)) ∈ lw_tbl := lw_at lw_m4 169 rfl
theorem q959 : (Jvm.Cond.instanceMethod ({ cls := "DiskPacks$State", name := "signal", desc := "(IIIII)F" } : Jvm.MethodName)) ∈ lw_all := lw_g (lw_at lw_m4 170 rfl) rfl
theorem q960 : (Jvm.Cond.code ({ cls := "DiskPacks$State", name := "signal", desc := "(IIIII)F" } : Jvm.MethodName) prog_9_method_18_code (8 : Nat) (Option.some Jvm.ClassFile.FieldType.float)) ∈ lw_all := lw_g (lw_at lw_m4 171 rfl) rfl
theorem q961 : (Jvm.Cond.methodLink "DiskPacks$State" (153 : Nat) ({ cls := "DiskPacks$Surface", name := "signalAt", desc := "(II)F" } : Jvm.MethodName)) ∈ lw_all := lw_g (lw_at lw_m4 172 rfl) rfl
theorem q969 : (Jvm.Cond.constantFloat "DiskPacks$State" (176 : Nat) (1056964608 : UInt32)) ∈ lw_all := lw_g (lw_at lw_m4 180 rfl) rfl
theorem q970 : (Jvm.Cond.methodLink "DiskPacks$State" (227 : Nat) ({ cls := "DiskPacks$Drive", name := "learn", desc := "(II)V" } : Jvm.MethodName)) ∈ lw_all := lw_g (lw_at lw_m4 181 rfl) rfl
theorem q981 : (Jvm.Cond.instanceMethod ({ cls := "DiskPacks$State", name := "setServo", desc := "(IZ)Z" } : Jvm.MethodName)) ∈ lw_all := lw_g (lw_at lw_m4 192 rfl) rfl
theorem q982 : (Jvm.Cond.selects "DiskPacks$State" ({ cls := "DiskPacks$State", name := "setServo", desc := "(IZ)Z" } : Jvm.MethodName) ({ cls := "DiskPacks$State", name := "setServo", desc := "(IZ)Z" } : Jvm.MethodName)) ∈ lw_all := lw_g (lw_at lw_m4 193 rfl) rfl
theorem q983 : (Jvm.Cond.code ({ cls := "DiskPacks$State", name := "setServo", desc := "(IZ)Z" } : Jvm.MethodName) prog_9_method_9_code (4 : Nat) (Option.some Jvm.ClassFile.FieldType.boolean)) ∈ lw_all := lw_g (lw_at lw_m4 194 rfl) rfl
theorem q991 : (Jvm.Cond.instanceMethod ({ cls := "DiskPacks$State", name := "polish", desc := "(I)Z" } : Jvm.MethodName)) ∈ lw_all := lw_g (lw_at lw_m4 202 rfl) rfl
theorem q992 : (Jvm.Cond.selects "DiskPacks$State" ({ cls := "DiskPacks$State", name := "polish", desc := "(I)Z" } : Jvm.MethodName) ({ cls := "DiskPacks$State", name := "polish", desc := "(I)Z" } : Jvm.MethodName)) ∈ lw_all := lw_g (lw_at lw_m4 203 rfl) rfl
theorem q993 : (Jvm.Cond.code ({ cls := "DiskPacks$State", name := "polish", desc := "(I)Z" } : Jvm.MethodName) prog_9_method_14_code (3 : Nat) (Option.some Jvm.ClassFile.FieldType.boolean)) ∈ lw_all := lw_g (lw_at lw_m4 204 rfl) rfl
theorem q994 : (Jvm.Cond.methodLink "DiskPacks$State" (138 : Nat) ({ cls := "DiskPacks$Pack", name := "polish", desc := "()I" } : Jvm.MethodName)) ∈ lw_all := lw_g (lw_at lw_m4 205 rfl) rfl
theorem q1006 : (Jvm.Cond.instanceMethod ({ cls := "DiskPacks$State", name := "mend", desc := "(II)Z" } : Jvm.MethodName)) ∈ lw_all := lw_g (lw_at lw_m4 217 rfl) rfl
theorem q1007 : (Jvm.Cond.selects "DiskPacks$State" ({ cls := "DiskPacks$State", name := "mend", desc := "(II)Z" } : Jvm.MethodName) ({ cls := "DiskPacks$State", name := "mend", desc := "(II)Z" } : Jvm.MethodName)) ∈ lw_all := lw_g (lw_at lw_m4 218 rfl) rfl
theorem q1008 : (Jvm.Cond.code ({ cls := "DiskPacks$State", name := "mend", desc := "(II)Z" } : Jvm.MethodName) prog_9_method_13_code (3 : Nat) (Option.some Jvm.ClassFile.FieldType.boolean)) ∈ lw_all := lw_g (lw_at lw_m4 219 rfl) rfl
theorem q1009 : (Jvm.Cond.methodLink "DiskPacks$State" (128 : Nat) ({ cls := "DiskPacks$Drive", name := "head", desc := "(I)LDiskPacks$Head;" } : Jvm.MethodName)) ∈ lw_all := lw_g (lw_at lw_m4 220 rfl) rfl
theorem q1010 : (Jvm.Cond.methodLink "DiskPacks$State" (135 : Nat) ({ cls := "DiskPacks$Head", name := "mend", desc := "()V" } : Jvm.MethodName)) ∈ lw_all := lw_g (lw_at lw_m4 221 rfl) rfl
theorem q1032 : (Jvm.Cond.instanceMethod ({ cls := "DiskPacks$State", name := "copy", desc := "()LDiskPacks$State;" } : Jvm.MethodName)) ∈ lw_all := lw_g (lw_at lw_m5 3 rfl) rfl
theorem q1033 : (Jvm.Cond.selects "DiskPacks$State" ({ cls := "DiskPacks$State", name := "copy", desc := "()LDiskPacks$State;" } : Jvm.MethodName) ({ cls := "DiskPacks$State", name := "copy", desc := "()LDiskPacks$State;" } : Jvm.MethodName)) ∈ lw_all := lw_g (lw_at lw_m5 4 rfl) rfl
theorem q1034 : (Jvm.Cond.code ({ cls := "DiskPacks$State", name := "copy", desc := "()LDiskPacks$State;" } : Jvm.MethodName) prog_9_method_3_code (1 : Nat) (Option.some (Jvm.ClassFile.FieldType.object "DiskPacks$State"))) ∈ lw_all := lw_g (lw_at lw_m5 5 rfl) rfl
theorem q1035 : (Jvm.Cond.classLink "DiskPacks$State" (12 : Nat) "DiskPacks$State") ∈ lw_all := lw_g (lw_at lw_m5 6 rfl) rfl
theorem q1036 : (Jvm.Cond.methodLink "DiskPacks$State" (70 : Nat) ({ cls := "DiskPacks$State", name := "<init>", desc := "(LDiskPacks$State;)V" } : Jvm.MethodName)) ∈ lw_all := lw_g (lw_at lw_m5 7 rfl) rfl
theorem q1037 : (Jvm.Cond.instanceMethod ({ cls := "DiskPacks$State", name := "<init>", desc := "(LDiskPacks$State;)V" } : Jvm.MethodName)) ∈ lw_all := lw_g (lw_at lw_m5 8 rfl) rfl
theorem q1038 : (Jvm.Cond.code ({ cls := "DiskPacks$State", name := "<init>", desc := "(LDiskPacks$State;)V" } : Jvm.MethodName) prog_9_method_2_code (4 : Nat) (Option.none : Option Jvm.ClassFile.FieldType)) ∈ lw_all := lw_g (lw_at lw_m5 9 rfl) rfl
theorem q1039 : (Jvm.Cond.methodLink "DiskPacks$State" (36 : Nat) ({ cls := "[I", name := "clone", desc := "()Ljava/lang/Object;" } : Jvm.MethodName)) ∈ lw_all := lw_g (lw_at lw_m5 10 rfl) rfl
theorem q1043 : (Jvm.Cond.classLink "DiskPacks$State" (37 : Nat) "[I") ∈ lw_all := lw_g (lw_at lw_m5 14 rfl) rfl
theorem q1044 : (Jvm.Cond.methodLink "DiskPacks$State" (47 : Nat) ({ cls := "DiskPacks$Drive", name := "copy", desc := "()LDiskPacks$Drive;" } : Jvm.MethodName)) ∈ lw_all := lw_g (lw_at lw_m5 15 rfl) rfl
theorem q1073 : (Jvm.Cond.methodLink "DiskPacks$State" (63 : Nat) ({ cls := "DiskPacks$Pack", name := "copy", desc := "()LDiskPacks$Pack;" } : Jvm.MethodName)) ∈ lw_all := lw_g (lw_at lw_m5 44 rfl) rfl
theorem q1103 : (Jvm.Cond.fieldLink "DiskPacks$State" (224 : Nat) "DiskPacks$Surface" "values" "[I") ∈ lw_all := lw_g (lw_at lw_m5 74 rfl) rfl
theorem q1106 : (Jvm.Cond.fieldLink "DiskPacks$State" (194 : Nat) "DiskPacks$Surface" "positions" "[I") ∈ lw_all := lw_g (lw_at lw_m5 77 rfl) rfl
theorem q1109 : (Jvm.Cond.fieldLink "DiskPacks$State" (187 : Nat) "DiskPacks$Surface" "strengths" "[F") ∈ lw_all := lw_g (lw_at lw_m5 80 rfl) rfl
theorem q1113 : (Jvm.Cond.fieldLink "DiskPacks$State" (204 : Nat) "DiskPacks$Surface" "isScratched" "Z") ∈ lw_all := lw_g (lw_at lw_m5 84 rfl) rfl
theorem q1126 : (Jvm.Cond.fieldLink "DiskPacks$State" (141 : Nat) "DiskPacks$Pack" "base" "I") ∈ lw_all := lw_g (lw_at lw_m5 97 rfl) rfl
theorem q1130 : (Jvm.Cond.fieldLink "DiskPacks$State" (149 : Nat) "DiskPacks$Pack" "surfaces" "[LDiskPacks$Surface;") ∈ lw_all := lw_g (lw_at lw_m5 101 rfl) rfl
theorem q1132 : (Jvm.Cond.fieldLink "DiskPacks$State" (92 : Nat) "DiskPacks$Pack" "drive" "I") ∈ lw_all := lw_g (lw_at lw_m5 103 rfl) rfl
theorem q1141 : (Jvm.Cond.interfaceEntry "DiskPacks$State" (66 : Nat)) ∈ lw_tbl := lw_at lw_m5 112 rfl
theorem q1142 : (Jvm.Cond.methodLink "DiskPacks$State" (66 : Nat) ({ cls := "java/util/List", name := "add", desc := "(Ljava/lang/Object;)Z" } : Jvm.MethodName)) ∈ lw_all := lw_g (lw_at lw_m5 113 rfl) rfl
theorem q1174 : (Jvm.Cond.selects "DiskPacks$State" ({ cls := "java/lang/Object", name := "getClass", desc := "()Ljava/lang/Class;" } : Jvm.MethodName) ({ cls := "java/lang/Object", name := "getClass", desc := "()Ljava/lang/Class;" } : Jvm.MethodName)) ∈ lw_all := lw_g (lw_at lw_m5 145 rfl) rfl
theorem q1330 : (Jvm.Cond.instanceMethod ({ cls := "DiskPacks$State", name := "canMakePack", desc := "(I)Z" } : Jvm.MethodName)) ∈ lw_all := lw_g (lw_at lw_m6 61 rfl) rfl
theorem q1331 : (Jvm.Cond.selects "DiskPacks$State" ({ cls := "DiskPacks$State", name := "canMakePack", desc := "(I)Z" } : Jvm.MethodName) ({ cls := "DiskPacks$State", name := "canMakePack", desc := "(I)Z" } : Jvm.MethodName)) ∈ lw_all := lw_g (lw_at lw_m6 62 rfl) rfl
theorem q1332 : (Jvm.Cond.code ({ cls := "DiskPacks$State", name := "canMakePack", desc := "(I)Z" } : Jvm.MethodName) prog_9_method_10_code (3 : Nat) (Option.some Jvm.ClassFile.FieldType.boolean)) ∈ lw_all := lw_g (lw_at lw_m6 63 rfl) rfl
theorem q1333 : (Jvm.Cond.privateMethod ({ cls := "DiskPacks$State", name := "lambda$canMakePack$3", desc := "()Z" } : Jvm.MethodName)) ∈ lw_tbl := lw_at lw_m6 64 rfl
theorem q1334 : (Jvm.Cond.instanceMethod ({ cls := "DiskPacks$State", name := "lambda$canMakePack$3", desc := "()Z" } : Jvm.MethodName)) ∈ lw_all := lw_g (lw_at lw_m6 65 rfl) rfl
theorem q1335 : (Jvm.Cond.code ({ cls := "DiskPacks$State", name := "lambda$canMakePack$3", desc := "()Z" } : Jvm.MethodName) prog_9_method_29_code (1 : Nat) (Option.some Jvm.ClassFile.FieldType.boolean)) ∈ lw_all := lw_g (lw_at lw_m6 66 rfl) rfl
theorem q1336 : (Jvm.Cond.privateMethod ({ cls := "DiskPacks$State", name := "lambda$canMakePack$4", desc := "(I)Z" } : Jvm.MethodName)) ∈ lw_tbl := lw_at lw_m6 67 rfl
theorem q1337 : (Jvm.Cond.instanceMethod ({ cls := "DiskPacks$State", name := "lambda$canMakePack$4", desc := "(I)Z" } : Jvm.MethodName)) ∈ lw_all := lw_g (lw_at lw_m6 68 rfl) rfl
theorem q1338 : (Jvm.Cond.code ({ cls := "DiskPacks$State", name := "lambda$canMakePack$4", desc := "(I)Z" } : Jvm.MethodName) prog_9_method_28_code (2 : Nat) (Option.some Jvm.ClassFile.FieldType.boolean)) ∈ lw_all := lw_g (lw_at lw_m6 69 rfl) rfl
theorem q1340 : (Jvm.Cond.instanceMethod ({ cls := "DiskPacks$State", name := "makePack", desc := "(I)V" } : Jvm.MethodName)) ∈ lw_all := lw_g (lw_at lw_m6 71 rfl) rfl
theorem q1341 : (Jvm.Cond.selects "DiskPacks$State" ({ cls := "DiskPacks$State", name := "makePack", desc := "(I)V" } : Jvm.MethodName) ({ cls := "DiskPacks$State", name := "makePack", desc := "(I)V" } : Jvm.MethodName)) ∈ lw_all := lw_g (lw_at lw_m6 72 rfl) rfl
theorem q1342 : (Jvm.Cond.code ({ cls := "DiskPacks$State", name := "makePack", desc := "(I)V" } : Jvm.MethodName) prog_9_method_11_code (2 : Nat) (Option.none : Option Jvm.ClassFile.FieldType)) ∈ lw_all := lw_g (lw_at lw_m6 73 rfl) rfl
theorem q1343 : (Jvm.Cond.methodLink "DiskPacks$State" (125 : Nat) ({ cls := "DiskPacks$Pack", name := "<init>", desc := "(I)V" } : Jvm.MethodName)) ∈ lw_all := lw_g (lw_at lw_m6 74 rfl) rfl
theorem q1435 : (Jvm.Cond.instanceMethod ({ cls := "DiskPacks$State", name := "strike", desc := "(II)V" } : Jvm.MethodName)) ∈ lw_all := lw_g (lw_at lw_m6 166 rfl) rfl
theorem q1436 : (Jvm.Cond.selects "DiskPacks$State" ({ cls := "DiskPacks$State", name := "strike", desc := "(II)V" } : Jvm.MethodName) ({ cls := "DiskPacks$State", name := "strike", desc := "(II)V" } : Jvm.MethodName)) ∈ lw_all := lw_g (lw_at lw_m6 167 rfl) rfl
theorem q1437 : (Jvm.Cond.code ({ cls := "DiskPacks$State", name := "strike", desc := "(II)V" } : Jvm.MethodName) prog_9_method_12_code (3 : Nat) (Option.none : Option Jvm.ClassFile.FieldType)) ∈ lw_all := lw_g (lw_at lw_m6 168 rfl) rfl
theorem q1438 : (Jvm.Cond.methodLink "DiskPacks$State" (132 : Nat) ({ cls := "DiskPacks$Head", name := "strike", desc := "()V" } : Jvm.MethodName)) ∈ lw_all := lw_g (lw_at lw_m6 169 rfl) rfl
theorem q1578 : (Jvm.Cond.instanceMethod ({ cls := "DiskPacks$State", name := "signalAt", desc := "(III)F" } : Jvm.MethodName)) ∈ lw_all := lw_g (lw_at lw_m7 69 rfl) rfl
theorem q1579 : (Jvm.Cond.selects "DiskPacks$State" ({ cls := "DiskPacks$State", name := "signalAt", desc := "(III)F" } : Jvm.MethodName) ({ cls := "DiskPacks$State", name := "signalAt", desc := "(III)F" } : Jvm.MethodName)) ∈ lw_all := lw_g (lw_at lw_m7 70 rfl) rfl
theorem q1580 : (Jvm.Cond.code ({ cls := "DiskPacks$State", name := "signalAt", desc := "(III)F" } : Jvm.MethodName) prog_9_method_19_code (4 : Nat) (Option.some Jvm.ClassFile.FieldType.float)) ∈ lw_all := lw_g (lw_at lw_m7 71 rfl) rfl
theorem q1621 : (Jvm.Cond.instanceMethod ({ cls := "DiskPacks$State", name := "retriesByGap", desc := "(II)I" } : Jvm.MethodName)) ∈ lw_all := lw_g (lw_at lw_m7 112 rfl) rfl
theorem q1622 : (Jvm.Cond.selects "DiskPacks$State" ({ cls := "DiskPacks$State", name := "retriesByGap", desc := "(II)I" } : Jvm.MethodName) ({ cls := "DiskPacks$State", name := "retriesByGap", desc := "(II)I" } : Jvm.MethodName)) ∈ lw_all := lw_g (lw_at lw_m7 113 rfl) rfl
theorem q1623 : (Jvm.Cond.code ({ cls := "DiskPacks$State", name := "retriesByGap", desc := "(II)I" } : Jvm.MethodName) prog_9_method_23_code (10 : Nat) (Option.some Jvm.ClassFile.FieldType.int)) ∈ lw_all := lw_g (lw_at lw_m7 114 rfl) rfl
theorem q1624 : (Jvm.Cond.methodLink "DiskPacks$State" (184 : Nat) ({ cls := "DiskPacks$Surface", name := "isEmpty", desc := "(I)Z" } : Jvm.MethodName)) ∈ lw_all := lw_g (lw_at lw_m7 115 rfl) rfl
theorem q1625 : (Jvm.Cond.methodLink "DiskPacks$State" (191 : Nat) ({ cls := "DiskPacks$Surface", name := "signal", desc := "(FI)F" } : Jvm.MethodName)) ∈ lw_all := lw_g (lw_at lw_m7 116 rfl) rfl
theorem q1626 : (Jvm.Cond.methodLinkNest "DiskPacks$State" (200 : Nat) ({ cls := "DiskPacks", name := "apart", desc := "(II)I" } : Jvm.MethodName) "DiskPacks") ∈ lw_tbl := lw_at lw_m7 117 rfl
theorem q1643 : (Jvm.Cond.instanceMethod ({ cls := "DiskPacks$State", name := "readableIn", desc := "(II)I" } : Jvm.MethodName)) ∈ lw_all := lw_g (lw_at lw_m7 134 rfl) rfl
theorem q1644 : (Jvm.Cond.selects "DiskPacks$State" ({ cls := "DiskPacks$State", name := "readableIn", desc := "(II)I" } : Jvm.MethodName) ({ cls := "DiskPacks$State", name := "readableIn", desc := "(II)I" } : Jvm.MethodName)) ∈ lw_all := lw_g (lw_at lw_m7 135 rfl) rfl
theorem q1645 : (Jvm.Cond.code ({ cls := "DiskPacks$State", name := "readableIn", desc := "(II)I" } : Jvm.MethodName) prog_9_method_24_code (6 : Nat) (Option.some Jvm.ClassFile.FieldType.int)) ∈ lw_all := lw_g (lw_at lw_m7 136 rfl) rfl
theorem q2172 : (Jvm.Cond.castable "DiskPacks$State" "java/lang/Object") ∈ lw_tbl := lw_at lw_m9 183 rfl
theorem in_X2 : ∀ w ∈ wsX20, w ∈ lw_all := lw_in wsX20 [320, 322, 324, 326, 328, 330, 332] (by decide +kernel) (by decide +kernel)
/-! DiskPacks -/
set_option maxRecDepth 100000
def RX1 : String := "DiskPacks"
def TX1 : u_T := fun k => match k with
  | 0 => ("DiskPacks", "state", "LDiskPacks$State;", false)
  | 1 => ("DiskPacks", "snapshot", "LDiskPacks$State;", false)
  | 2 => ("DiskPacks", "history", "Ljava/util/ArrayDeque;", true)
  | _ => ("DiskPacks", "buffer", "Ljava/lang/StringBuilder;", true)
def tyX1 : Nat → FieldType := fun k => match k with
  | 0 => .object "DiskPacks$State"
  | 1 => .object "DiskPacks$State"
  | 2 => .object "java/util/ArrayDeque"
  | _ => .object "java/lang/StringBuilder"
abbrev wsX10 : List Cond := u_ws RX1 TX1 4
theorem nmX1 : ∀ a, a < 4 → ∀ b, b < 4 → a ≠ b → (TX1 a).2.1 ≠ (TX1 b).2.1 := by decide +kernel
theorem tyX1_ok : ∀ k, k < 4 → parseFieldDescriptor (TX1 k).2.2.1 = some (tyX1 k) := by decide +kernel
abbrev cX1_init : ByteArray := prog_1_method_4_code
def yX1_init : MethodName := ⟨RX1, "<init>", "()V"⟩
def dkwX1_init_1 : List UInt8 := [181, 0, 27, 42, 187, 0, 31, 89, 183, 0, 33, 181, 0, 34, 177]
abbrev dktX1_init_1 : List UInt8 := dkwX1_init_1 ++ []
def dkwX1_init_0 : List UInt8 := [42, 183, 0, 9, 42, 187, 0, 15, 89, 183, 0, 17, 181, 0, 18, 42, 187, 0, 24, 89, 183, 0, 26]
abbrev dktX1_init_0 : List UInt8 := dkwX1_init_0 ++ dktX1_init_1
theorem dksX1_init_0 : cX1_init.data.toList.drop 0 = dktX1_init_0 := by decide +kernel
theorem dksX1_init_1 : cX1_init.data.toList.drop 23 = dktX1_init_1 := dk_seg dksX1_init_0 23 rfl rfl
theorem dX1_init_0 : decode cX1_init 0 = .ok (.aload_n 0, 1) := dk_42 (dk_at dksX1_init_0 0 rfl rfl)
theorem dX1_init_1 : decode cX1_init 1 = .ok (.invokespecial 9, 3) := dk_183 0 9 (dk_at dksX1_init_0 1 rfl rfl)
theorem dX1_init_4 : decode cX1_init 4 = .ok (.aload_n 0, 1) := dk_42 (dk_at dksX1_init_0 4 rfl rfl)
theorem dX1_init_5 : decode cX1_init 5 = .ok (.new 15, 3) := dk_187 0 15 (dk_at dksX1_init_0 5 rfl rfl)
theorem dX1_init_8 : decode cX1_init 8 = .ok (.dup, 1) := dk_89 (dk_at dksX1_init_0 8 rfl rfl)
theorem dX1_init_9 : decode cX1_init 9 = .ok (.invokespecial 17, 3) := dk_183 0 17 (dk_at dksX1_init_0 9 rfl rfl)
theorem dX1_init_12 : decode cX1_init 12 = .ok (.putfield 18, 3) := dk_181 0 18 (dk_at dksX1_init_0 12 rfl rfl)
theorem dX1_init_15 : decode cX1_init 15 = .ok (.aload_n 0, 1) := dk_42 (dk_at dksX1_init_0 15 rfl rfl)
theorem dX1_init_16 : decode cX1_init 16 = .ok (.new 24, 3) := dk_187 0 24 (dk_at dksX1_init_0 16 rfl rfl)
theorem dX1_init_19 : decode cX1_init 19 = .ok (.dup, 1) := dk_89 (dk_at dksX1_init_0 19 rfl rfl)
theorem dX1_init_20 : decode cX1_init 20 = .ok (.invokespecial 26, 3) := dk_183 0 26 (dk_at dksX1_init_0 20 rfl rfl)
theorem dX1_init_23 : decode cX1_init 23 = .ok (.putfield 27, 3) := dk_181 0 27 (dk_at dksX1_init_1 0 rfl rfl)
theorem dX1_init_26 : decode cX1_init 26 = .ok (.aload_n 0, 1) := dk_42 (dk_at dksX1_init_1 3 rfl rfl)
theorem dX1_init_27 : decode cX1_init 27 = .ok (.new 31, 3) := dk_187 0 31 (dk_at dksX1_init_1 4 rfl rfl)
theorem dX1_init_30 : decode cX1_init 30 = .ok (.dup, 1) := dk_89 (dk_at dksX1_init_1 7 rfl rfl)
theorem dX1_init_31 : decode cX1_init 31 = .ok (.invokespecial 33, 3) := dk_183 0 33 (dk_at dksX1_init_1 8 rfl rfl)
theorem dX1_init_34 : decode cX1_init 34 = .ok (.putfield 34, 3) := dk_181 0 34 (dk_at dksX1_init_1 11 rfl rfl)
theorem dX1_init_37 : decode cX1_init 37 = .ok (.return_, 1) := dk_177 (dk_at dksX1_init_1 14 rfl rfl)
abbrev cX1_fits : ByteArray := prog_1_method_1_code
def yX1_fits : MethodName := ⟨RX1, "fits", "([LDiskPacks$Head;ILDiskPacks$Head;)Z"⟩
def dkwX1_fits_0 : List UInt8 := [42, 27, 44, 83, 4, 172, 78, 3, 172]
abbrev dktX1_fits_0 : List UInt8 := dkwX1_fits_0 ++ []
theorem dksX1_fits_0 : cX1_fits.data.toList.drop 0 = dktX1_fits_0 := by decide +kernel
theorem dX1_fits_0 : decode cX1_fits 0 = .ok (.aload_n 0, 1) := dk_42 (dk_at dksX1_fits_0 0 rfl rfl)
theorem dX1_fits_1 : decode cX1_fits 1 = .ok (.iload_n 1, 1) := dk_27 (dk_at dksX1_fits_0 1 rfl rfl)
theorem dX1_fits_2 : decode cX1_fits 2 = .ok (.aload_n 2, 1) := dk_44 (dk_at dksX1_fits_0 2 rfl rfl)
theorem dX1_fits_3 : decode cX1_fits 3 = .ok (.aastore, 1) := dk_83 (dk_at dksX1_fits_0 3 rfl rfl)
theorem dX1_fits_4 : decode cX1_fits 4 = .ok (.iconst 1, 1) := dk_4 (dk_at dksX1_fits_0 4 rfl rfl)
theorem dX1_fits_5 : decode cX1_fits 5 = .ok (.ireturn, 1) := dk_172 (dk_at dksX1_fits_0 5 rfl rfl)
theorem dX1_fits_6 : decode cX1_fits 6 = .ok (.astore_n 3, 1) := dk_78 (dk_at dksX1_fits_0 6 rfl rfl)
theorem dX1_fits_7 : decode cX1_fits 7 = .ok (.iconst 0, 1) := dk_3 (dk_at dksX1_fits_0 7 rfl rfl)
theorem dX1_fits_8 : decode cX1_fits 8 = .ok (.ireturn, 1) := dk_172 (dk_at dksX1_fits_0 8 rfl rfl)
abbrev cX1_packs : ByteArray := prog_1_method_38_code
def yX1_packs : MethodName := ⟨RX1, "packs", "()I"⟩
def dkwX1_packs_0 : List UInt8 := [42, 180, 0, 18, 180, 0, 81, 185, 0, 85, 1, 0, 172]
abbrev dktX1_packs_0 : List UInt8 := dkwX1_packs_0 ++ []
theorem dksX1_packs_0 : cX1_packs.data.toList.drop 0 = dktX1_packs_0 := by decide +kernel
theorem dX1_packs_0 : decode cX1_packs 0 = .ok (.aload_n 0, 1) := dk_42 (dk_at dksX1_packs_0 0 rfl rfl)
theorem dX1_packs_1 : decode cX1_packs 1 = .ok (.getfield 18, 3) := dk_180 0 18 (dk_at dksX1_packs_0 1 rfl rfl)
theorem dX1_packs_4 : decode cX1_packs 4 = .ok (.getfield 81, 3) := dk_180 0 81 (dk_at dksX1_packs_0 4 rfl rfl)
theorem dX1_packs_7 : decode cX1_packs 7 = .ok (.invokeinterface 85 1, 5) := by decide +kernel
theorem dX1_packs_12 : decode cX1_packs 12 = .ok (.ireturn, 1) := dk_172 (dk_at dksX1_packs_0 12 rfl rfl)
abbrev cX1_reads : ByteArray := prog_1_method_53_code
def yX1_reads : MethodName := ⟨RX1, "reads", "()I"⟩
def dkwX1_reads_0 : List UInt8 := [42, 180, 0, 18, 180, 1, 9, 172]
abbrev dktX1_reads_0 : List UInt8 := dkwX1_reads_0 ++ []
theorem dksX1_reads_0 : cX1_reads.data.toList.drop 0 = dktX1_reads_0 := by decide +kernel
theorem dX1_reads_0 : decode cX1_reads 0 = .ok (.aload_n 0, 1) := dk_42 (dk_at dksX1_reads_0 0 rfl rfl)
theorem dX1_reads_1 : decode cX1_reads 1 = .ok (.getfield 18, 3) := dk_180 0 18 (dk_at dksX1_reads_0 1 rfl rfl)
theorem dX1_reads_4 : decode cX1_reads 4 = .ok (.getfield 265, 3) := dk_180 1 9 (dk_at dksX1_reads_0 4 rfl rfl)
theorem dX1_reads_7 : decode cX1_reads 7 = .ok (.ireturn, 1) := dk_172 (dk_at dksX1_reads_0 7 rfl rfl)
abbrev cX1_failures : ByteArray := prog_1_method_54_code
def yX1_failures : MethodName := ⟨RX1, "failures", "()I"⟩
def dkwX1_failures_0 : List UInt8 := [42, 180, 0, 18, 180, 1, 12, 172]
abbrev dktX1_failures_0 : List UInt8 := dkwX1_failures_0 ++ []
theorem dksX1_failures_0 : cX1_failures.data.toList.drop 0 = dktX1_failures_0 := by decide +kernel
theorem dX1_failures_0 : decode cX1_failures 0 = .ok (.aload_n 0, 1) := dk_42 (dk_at dksX1_failures_0 0 rfl rfl)
theorem dX1_failures_1 : decode cX1_failures 1 = .ok (.getfield 18, 3) := dk_180 0 18 (dk_at dksX1_failures_0 1 rfl rfl)
theorem dX1_failures_4 : decode cX1_failures 4 = .ok (.getfield 268, 3) := dk_180 1 12 (dk_at dksX1_failures_0 4 rfl rfl)
theorem dX1_failures_7 : decode cX1_failures 7 = .ok (.ireturn, 1) := dk_172 (dk_at dksX1_failures_0 7 rfl rfl)
abbrev cX1_retriesByDrives : ByteArray := prog_1_method_56_code
def yX1_retriesByDrives : MethodName := ⟨RX1, "retriesByDrives", "()I"⟩
def dkwX1_retriesByDrives_0 : List UInt8 := [42, 180, 0, 18, 180, 1, 15, 184, 1, 18, 172]
abbrev dktX1_retriesByDrives_0 : List UInt8 := dkwX1_retriesByDrives_0 ++ []
theorem dksX1_retriesByDrives_0 : cX1_retriesByDrives.data.toList.drop 0 = dktX1_retriesByDrives_0 := by decide +kernel
theorem dX1_retriesByDrives_0 : decode cX1_retriesByDrives 0 = .ok (.aload_n 0, 1) := dk_42 (dk_at dksX1_retriesByDrives_0 0 rfl rfl)
theorem dX1_retriesByDrives_1 : decode cX1_retriesByDrives 1 = .ok (.getfield 18, 3) := dk_180 0 18 (dk_at dksX1_retriesByDrives_0 1 rfl rfl)
theorem dX1_retriesByDrives_4 : decode cX1_retriesByDrives 4 = .ok (.getfield 271, 3) := dk_180 1 15 (dk_at dksX1_retriesByDrives_0 4 rfl rfl)
theorem dX1_retriesByDrives_7 : decode cX1_retriesByDrives 7 = .ok (.invokestatic 274, 3) := dk_184 1 18 (dk_at dksX1_retriesByDrives_0 7 rfl rfl)
theorem dX1_retriesByDrives_10 : decode cX1_retriesByDrives 10 = .ok (.ireturn, 1) := dk_172 (dk_at dksX1_retriesByDrives_0 10 rfl rfl)
abbrev cX1_sum : ByteArray := prog_1_method_55_code
def yX1_sum : MethodName := ⟨RX1, "sum", "([I)I"⟩
def dkwX1_sum_0 : List UInt8 := [3, 60, 3, 61, 28, 42, 190, 162, 0, 15, 27, 42, 28, 46, 96, 60, 132, 2, 1, 167, 255, 241, 27, 172]
abbrev dktX1_sum_0 : List UInt8 := dkwX1_sum_0 ++ []
theorem dksX1_sum_0 : cX1_sum.data.toList.drop 0 = dktX1_sum_0 := by decide +kernel
theorem dX1_sum_0 : decode cX1_sum 0 = .ok (.iconst 0, 1) := dk_3 (dk_at dksX1_sum_0 0 rfl rfl)
theorem dX1_sum_1 : decode cX1_sum 1 = .ok (.istore_n 1, 1) := dk_60 (dk_at dksX1_sum_0 1 rfl rfl)
theorem dX1_sum_2 : decode cX1_sum 2 = .ok (.iconst 0, 1) := dk_3 (dk_at dksX1_sum_0 2 rfl rfl)
theorem dX1_sum_3 : decode cX1_sum 3 = .ok (.istore_n 2, 1) := dk_61 (dk_at dksX1_sum_0 3 rfl rfl)
theorem dX1_sum_4 : decode cX1_sum 4 = .ok (.iload_n 2, 1) := dk_28 (dk_at dksX1_sum_0 4 rfl rfl)
theorem dX1_sum_5 : decode cX1_sum 5 = .ok (.aload_n 0, 1) := dk_42 (dk_at dksX1_sum_0 5 rfl rfl)
theorem dX1_sum_6 : decode cX1_sum 6 = .ok (.arraylength, 1) := dk_190 (dk_at dksX1_sum_0 6 rfl rfl)
theorem dX1_sum_7 : decode cX1_sum 7 = .ok (.if_icmp .ge 15, 3) := dk_162 0 15 (dk_at dksX1_sum_0 7 rfl rfl)
theorem dX1_sum_10 : decode cX1_sum 10 = .ok (.iload_n 1, 1) := dk_27 (dk_at dksX1_sum_0 10 rfl rfl)
theorem dX1_sum_11 : decode cX1_sum 11 = .ok (.aload_n 0, 1) := dk_42 (dk_at dksX1_sum_0 11 rfl rfl)
theorem dX1_sum_12 : decode cX1_sum 12 = .ok (.iload_n 2, 1) := dk_28 (dk_at dksX1_sum_0 12 rfl rfl)
theorem dX1_sum_13 : decode cX1_sum 13 = .ok (.iaload, 1) := dk_46 (dk_at dksX1_sum_0 13 rfl rfl)
theorem dX1_sum_14 : decode cX1_sum 14 = .ok (.iadd, 1) := dk_96 (dk_at dksX1_sum_0 14 rfl rfl)
theorem dX1_sum_15 : decode cX1_sum 15 = .ok (.istore_n 1, 1) := dk_60 (dk_at dksX1_sum_0 15 rfl rfl)
theorem dX1_sum_16 : decode cX1_sum 16 = .ok (.iinc 2 1, 3) := dk_132 2 1 (dk_at dksX1_sum_0 16 rfl rfl)
theorem dX1_sum_19 : decode cX1_sum 19 = .ok (.goto (-15), 3) := dk_167 255 241 (dk_at dksX1_sum_0 19 rfl rfl)
theorem dX1_sum_22 : decode cX1_sum 22 = .ok (.iload_n 1, 1) := dk_27 (dk_at dksX1_sum_0 22 rfl rfl)
theorem dX1_sum_23 : decode cX1_sum 23 = .ok (.ireturn, 1) := dk_172 (dk_at dksX1_sum_0 23 rfl rfl)
abbrev cX1_retriesByPacks : ByteArray := prog_1_method_57_code
def yX1_retriesByPacks : MethodName := ⟨RX1, "retriesByPacks", "()I"⟩
def dkwX1_retriesByPacks_0 : List UInt8 := [42, 180, 0, 18, 180, 1, 22, 184, 1, 18, 172]
abbrev dktX1_retriesByPacks_0 : List UInt8 := dkwX1_retriesByPacks_0 ++ []
theorem dksX1_retriesByPacks_0 : cX1_retriesByPacks.data.toList.drop 0 = dktX1_retriesByPacks_0 := by decide +kernel
theorem dX1_retriesByPacks_0 : decode cX1_retriesByPacks 0 = .ok (.aload_n 0, 1) := dk_42 (dk_at dksX1_retriesByPacks_0 0 rfl rfl)
theorem dX1_retriesByPacks_1 : decode cX1_retriesByPacks 1 = .ok (.getfield 18, 3) := dk_180 0 18 (dk_at dksX1_retriesByPacks_0 1 rfl rfl)
theorem dX1_retriesByPacks_4 : decode cX1_retriesByPacks 4 = .ok (.getfield 278, 3) := dk_180 1 22 (dk_at dksX1_retriesByPacks_0 4 rfl rfl)
theorem dX1_retriesByPacks_7 : decode cX1_retriesByPacks 7 = .ok (.invokestatic 274, 3) := dk_184 1 18 (dk_at dksX1_retriesByPacks_0 7 rfl rfl)
theorem dX1_retriesByPacks_10 : decode cX1_retriesByPacks 10 = .ok (.ireturn, 1) := dk_172 (dk_at dksX1_retriesByPacks_0 10 rfl rfl)
abbrev cX1_meanRetries : ByteArray := prog_1_method_58_code
def yX1_meanRetries : MethodName := ⟨RX1, "meanRetries", "()D"⟩
def dkwX1_meanRetries_1 : List UInt8 := [42, 180, 0, 18, 180, 1, 15, 184, 1, 18, 135, 27, 135, 111, 175]
abbrev dktX1_meanRetries_1 : List UInt8 := dkwX1_meanRetries_1 ++ []
def dkwX1_meanRetries_0 : List UInt8 := [42, 180, 0, 18, 180, 1, 9, 42, 180, 0, 18, 180, 1, 12, 96, 60, 27, 154, 0, 7, 14, 167, 0, 17]
abbrev dktX1_meanRetries_0 : List UInt8 := dkwX1_meanRetries_0 ++ dktX1_meanRetries_1
theorem dksX1_meanRetries_0 : cX1_meanRetries.data.toList.drop 0 = dktX1_meanRetries_0 := by decide +kernel
theorem dksX1_meanRetries_1 : cX1_meanRetries.data.toList.drop 24 = dktX1_meanRetries_1 := dk_seg dksX1_meanRetries_0 24 rfl rfl
theorem dX1_meanRetries_0 : decode cX1_meanRetries 0 = .ok (.aload_n 0, 1) := dk_42 (dk_at dksX1_meanRetries_0 0 rfl rfl)
theorem dX1_meanRetries_1 : decode cX1_meanRetries 1 = .ok (.getfield 18, 3) := dk_180 0 18 (dk_at dksX1_meanRetries_0 1 rfl rfl)
theorem dX1_meanRetries_4 : decode cX1_meanRetries 4 = .ok (.getfield 265, 3) := dk_180 1 9 (dk_at dksX1_meanRetries_0 4 rfl rfl)
theorem dX1_meanRetries_7 : decode cX1_meanRetries 7 = .ok (.aload_n 0, 1) := dk_42 (dk_at dksX1_meanRetries_0 7 rfl rfl)
theorem dX1_meanRetries_8 : decode cX1_meanRetries 8 = .ok (.getfield 18, 3) := dk_180 0 18 (dk_at dksX1_meanRetries_0 8 rfl rfl)
theorem dX1_meanRetries_11 : decode cX1_meanRetries 11 = .ok (.getfield 268, 3) := dk_180 1 12 (dk_at dksX1_meanRetries_0 11 rfl rfl)
theorem dX1_meanRetries_14 : decode cX1_meanRetries 14 = .ok (.iadd, 1) := dk_96 (dk_at dksX1_meanRetries_0 14 rfl rfl)
theorem dX1_meanRetries_15 : decode cX1_meanRetries 15 = .ok (.istore_n 1, 1) := dk_60 (dk_at dksX1_meanRetries_0 15 rfl rfl)
theorem dX1_meanRetries_16 : decode cX1_meanRetries 16 = .ok (.iload_n 1, 1) := dk_27 (dk_at dksX1_meanRetries_0 16 rfl rfl)
theorem dX1_meanRetries_17 : decode cX1_meanRetries 17 = .ok (.ifCond .ne 7, 3) := dk_154 0 7 (dk_at dksX1_meanRetries_0 17 rfl rfl)
theorem dX1_meanRetries_20 : decode cX1_meanRetries 20 = .ok (.dconst 0, 1) := dk_14 (dk_at dksX1_meanRetries_0 20 rfl rfl)
theorem dX1_meanRetries_21 : decode cX1_meanRetries 21 = .ok (.goto 17, 3) := dk_167 0 17 (dk_at dksX1_meanRetries_0 21 rfl rfl)
theorem dX1_meanRetries_24 : decode cX1_meanRetries 24 = .ok (.aload_n 0, 1) := dk_42 (dk_at dksX1_meanRetries_1 0 rfl rfl)
theorem dX1_meanRetries_25 : decode cX1_meanRetries 25 = .ok (.getfield 18, 3) := dk_180 0 18 (dk_at dksX1_meanRetries_1 1 rfl rfl)
theorem dX1_meanRetries_28 : decode cX1_meanRetries 28 = .ok (.getfield 271, 3) := dk_180 1 15 (dk_at dksX1_meanRetries_1 4 rfl rfl)
theorem dX1_meanRetries_31 : decode cX1_meanRetries 31 = .ok (.invokestatic 274, 3) := dk_184 1 18 (dk_at dksX1_meanRetries_1 7 rfl rfl)
theorem dX1_meanRetries_34 : decode cX1_meanRetries 34 = .ok (.i2d, 1) := dk_135 (dk_at dksX1_meanRetries_1 10 rfl rfl)
theorem dX1_meanRetries_35 : decode cX1_meanRetries 35 = .ok (.iload_n 1, 1) := dk_27 (dk_at dksX1_meanRetries_1 11 rfl rfl)
theorem dX1_meanRetries_36 : decode cX1_meanRetries 36 = .ok (.i2d, 1) := dk_135 (dk_at dksX1_meanRetries_1 12 rfl rfl)
theorem dX1_meanRetries_37 : decode cX1_meanRetries 37 = .ok (.ddiv, 1) := dk_111 (dk_at dksX1_meanRetries_1 13 rfl rfl)
theorem dX1_meanRetries_38 : decode cX1_meanRetries 38 = .ok (.dreturn, 1) := dk_175 (dk_at dksX1_meanRetries_1 14 rfl rfl)
abbrev cX1_clearText : ByteArray := prog_1_method_60_code
def yX1_clearText : MethodName := ⟨RX1, "clearText", "()I"⟩
def dkwX1_clearText_0 : List UInt8 := [42, 180, 0, 34, 182, 1, 25, 60, 42, 180, 0, 34, 3, 182, 1, 32, 27, 172]
abbrev dktX1_clearText_0 : List UInt8 := dkwX1_clearText_0 ++ []
theorem dksX1_clearText_0 : cX1_clearText.data.toList.drop 0 = dktX1_clearText_0 := by decide +kernel
theorem dX1_clearText_0 : decode cX1_clearText 0 = .ok (.aload_n 0, 1) := dk_42 (dk_at dksX1_clearText_0 0 rfl rfl)
theorem dX1_clearText_1 : decode cX1_clearText 1 = .ok (.getfield 34, 3) := dk_180 0 34 (dk_at dksX1_clearText_0 1 rfl rfl)
theorem dX1_clearText_4 : decode cX1_clearText 4 = .ok (.invokevirtual 281, 3) := dk_182 1 25 (dk_at dksX1_clearText_0 4 rfl rfl)
theorem dX1_clearText_7 : decode cX1_clearText 7 = .ok (.istore_n 1, 1) := dk_60 (dk_at dksX1_clearText_0 7 rfl rfl)
theorem dX1_clearText_8 : decode cX1_clearText 8 = .ok (.aload_n 0, 1) := dk_42 (dk_at dksX1_clearText_0 8 rfl rfl)
theorem dX1_clearText_9 : decode cX1_clearText 9 = .ok (.getfield 34, 3) := dk_180 0 34 (dk_at dksX1_clearText_0 9 rfl rfl)
theorem dX1_clearText_12 : decode cX1_clearText 12 = .ok (.iconst 0, 1) := dk_3 (dk_at dksX1_clearText_0 12 rfl rfl)
theorem dX1_clearText_13 : decode cX1_clearText 13 = .ok (.invokevirtual 288, 3) := dk_182 1 32 (dk_at dksX1_clearText_0 13 rfl rfl)
theorem dX1_clearText_16 : decode cX1_clearText 16 = .ok (.iload_n 1, 1) := dk_27 (dk_at dksX1_clearText_0 16 rfl rfl)
theorem dX1_clearText_17 : decode cX1_clearText 17 = .ok (.ireturn, 1) := dk_172 (dk_at dksX1_clearText_0 17 rfl rfl)
abbrev cX1_errorPosition : ByteArray := prog_1_method_61_code
def yX1_errorPosition : MethodName := ⟨RX1, "errorPosition", "()I"⟩
def dkwX1_errorPosition_0 : List UInt8 := [187, 1, 35, 89, 42, 183, 1, 37, 76, 43, 182, 1, 40, 87, 43, 180, 1, 43, 172]
abbrev dktX1_errorPosition_0 : List UInt8 := dkwX1_errorPosition_0 ++ []
theorem dksX1_errorPosition_0 : cX1_errorPosition.data.toList.drop 0 = dktX1_errorPosition_0 := by decide +kernel
theorem dX1_errorPosition_0 : decode cX1_errorPosition 0 = .ok (.new 291, 3) := dk_187 1 35 (dk_at dksX1_errorPosition_0 0 rfl rfl)
theorem dX1_errorPosition_3 : decode cX1_errorPosition 3 = .ok (.dup, 1) := dk_89 (dk_at dksX1_errorPosition_0 3 rfl rfl)
theorem dX1_errorPosition_4 : decode cX1_errorPosition 4 = .ok (.aload_n 0, 1) := dk_42 (dk_at dksX1_errorPosition_0 4 rfl rfl)
theorem dX1_errorPosition_5 : decode cX1_errorPosition 5 = .ok (.invokespecial 293, 3) := dk_183 1 37 (dk_at dksX1_errorPosition_0 5 rfl rfl)
theorem dX1_errorPosition_8 : decode cX1_errorPosition 8 = .ok (.astore_n 1, 1) := dk_76 (dk_at dksX1_errorPosition_0 8 rfl rfl)
theorem dX1_errorPosition_9 : decode cX1_errorPosition 9 = .ok (.aload_n 1, 1) := dk_43 (dk_at dksX1_errorPosition_0 9 rfl rfl)
theorem dX1_errorPosition_10 : decode cX1_errorPosition 10 = .ok (.invokevirtual 296, 3) := dk_182 1 40 (dk_at dksX1_errorPosition_0 10 rfl rfl)
theorem dX1_errorPosition_13 : decode cX1_errorPosition 13 = .ok (.pop, 1) := dk_87 (dk_at dksX1_errorPosition_0 13 rfl rfl)
theorem dX1_errorPosition_14 : decode cX1_errorPosition 14 = .ok (.aload_n 1, 1) := dk_43 (dk_at dksX1_errorPosition_0 14 rfl rfl)
theorem dX1_errorPosition_15 : decode cX1_errorPosition 15 = .ok (.getfield 299, 3) := dk_180 1 43 (dk_at dksX1_errorPosition_0 15 rfl rfl)
theorem dX1_errorPosition_18 : decode cX1_errorPosition 18 = .ok (.ireturn, 1) := dk_172 (dk_at dksX1_errorPosition_0 18 rfl rfl)
abbrev cX1_none : ByteArray := prog_1_method_3_code
def yX1_none : MethodName := ⟨RX1, "none", "([LDiskPacks$Reason;)Z"⟩
def dkwX1_none_1 : List UInt8 := [167, 255, 234, 4, 172]
abbrev dktX1_none_1 : List UInt8 := dkwX1_none_1 ++ []
def dkwX1_none_0 : List UInt8 := [3, 60, 27, 42, 190, 162, 0, 22, 42, 27, 50, 185, 0, 3, 1, 0, 153, 0, 5, 3, 172, 132, 1, 1]
abbrev dktX1_none_0 : List UInt8 := dkwX1_none_0 ++ dktX1_none_1
theorem dksX1_none_0 : cX1_none.data.toList.drop 0 = dktX1_none_0 := by decide +kernel
theorem dksX1_none_1 : cX1_none.data.toList.drop 24 = dktX1_none_1 := dk_seg dksX1_none_0 24 rfl rfl
theorem dX1_none_0 : decode cX1_none 0 = .ok (.iconst 0, 1) := dk_3 (dk_at dksX1_none_0 0 rfl rfl)
theorem dX1_none_1 : decode cX1_none 1 = .ok (.istore_n 1, 1) := dk_60 (dk_at dksX1_none_0 1 rfl rfl)
theorem dX1_none_2 : decode cX1_none 2 = .ok (.iload_n 1, 1) := dk_27 (dk_at dksX1_none_0 2 rfl rfl)
theorem dX1_none_3 : decode cX1_none 3 = .ok (.aload_n 0, 1) := dk_42 (dk_at dksX1_none_0 3 rfl rfl)
theorem dX1_none_4 : decode cX1_none 4 = .ok (.arraylength, 1) := dk_190 (dk_at dksX1_none_0 4 rfl rfl)
theorem dX1_none_5 : decode cX1_none 5 = .ok (.if_icmp .ge 22, 3) := dk_162 0 22 (dk_at dksX1_none_0 5 rfl rfl)
theorem dX1_none_8 : decode cX1_none 8 = .ok (.aload_n 0, 1) := dk_42 (dk_at dksX1_none_0 8 rfl rfl)
theorem dX1_none_9 : decode cX1_none 9 = .ok (.iload_n 1, 1) := dk_27 (dk_at dksX1_none_0 9 rfl rfl)
theorem dX1_none_10 : decode cX1_none 10 = .ok (.aaload, 1) := dk_50 (dk_at dksX1_none_0 10 rfl rfl)
theorem dX1_none_11 : decode cX1_none 11 = .ok (.invokeinterface 3 1, 5) := by decide +kernel
theorem dX1_none_16 : decode cX1_none 16 = .ok (.ifCond .eq 5, 3) := dk_153 0 5 (dk_at dksX1_none_0 16 rfl rfl)
theorem dX1_none_19 : decode cX1_none 19 = .ok (.iconst 0, 1) := dk_3 (dk_at dksX1_none_0 19 rfl rfl)
theorem dX1_none_20 : decode cX1_none 20 = .ok (.ireturn, 1) := dk_172 (dk_at dksX1_none_0 20 rfl rfl)
theorem dX1_none_21 : decode cX1_none 21 = .ok (.iinc 1 1, 3) := dk_132 1 1 (dk_at dksX1_none_0 21 rfl rfl)
theorem dX1_none_24 : decode cX1_none 24 = .ok (.goto (-22), 3) := dk_167 255 234 (dk_at dksX1_none_1 0 rfl rfl)
theorem dX1_none_27 : decode cX1_none 27 = .ok (.iconst 1, 1) := dk_4 (dk_at dksX1_none_1 3 rfl rfl)
theorem dX1_none_28 : decode cX1_none 28 = .ok (.ireturn, 1) := dk_172 (dk_at dksX1_none_1 4 rfl rfl)
abbrev cX1_apart : ByteArray := prog_1_method_2_code
def yX1_apart : MethodName := ⟨RX1, "apart", "(II)I"⟩
def dkwX1_apart_0 : List UInt8 := [26, 27, 162, 0, 9, 27, 26, 100, 167, 0, 6, 26, 27, 100, 172]
abbrev dktX1_apart_0 : List UInt8 := dkwX1_apart_0 ++ []
theorem dksX1_apart_0 : cX1_apart.data.toList.drop 0 = dktX1_apart_0 := by decide +kernel
theorem dX1_apart_0 : decode cX1_apart 0 = .ok (.iload_n 0, 1) := dk_26 (dk_at dksX1_apart_0 0 rfl rfl)
theorem dX1_apart_1 : decode cX1_apart 1 = .ok (.iload_n 1, 1) := dk_27 (dk_at dksX1_apart_0 1 rfl rfl)
theorem dX1_apart_2 : decode cX1_apart 2 = .ok (.if_icmp .ge 9, 3) := dk_162 0 9 (dk_at dksX1_apart_0 2 rfl rfl)
theorem dX1_apart_5 : decode cX1_apart 5 = .ok (.iload_n 1, 1) := dk_27 (dk_at dksX1_apart_0 5 rfl rfl)
theorem dX1_apart_6 : decode cX1_apart 6 = .ok (.iload_n 0, 1) := dk_26 (dk_at dksX1_apart_0 6 rfl rfl)
theorem dX1_apart_7 : decode cX1_apart 7 = .ok (.isub, 1) := dk_100 (dk_at dksX1_apart_0 7 rfl rfl)
theorem dX1_apart_8 : decode cX1_apart 8 = .ok (.goto 6, 3) := dk_167 0 6 (dk_at dksX1_apart_0 8 rfl rfl)
theorem dX1_apart_11 : decode cX1_apart 11 = .ok (.iload_n 0, 1) := dk_26 (dk_at dksX1_apart_0 11 rfl rfl)
theorem dX1_apart_12 : decode cX1_apart 12 = .ok (.iload_n 1, 1) := dk_27 (dk_at dksX1_apart_0 12 rfl rfl)
theorem dX1_apart_13 : decode cX1_apart 13 = .ok (.isub, 1) := dk_100 (dk_at dksX1_apart_0 13 rfl rfl)
theorem dX1_apart_14 : decode cX1_apart 14 = .ok (.ireturn, 1) := dk_172 (dk_at dksX1_apart_0 14 rfl rfl)
abbrev cX1_savedStates : ByteArray := prog_1_method_64_code
def yX1_savedStates : MethodName := ⟨RX1, "savedStates", "()I"⟩
def dkwX1_savedStates_0 : List UInt8 := [42, 180, 0, 27, 182, 0, 38, 172]
abbrev dktX1_savedStates_0 : List UInt8 := dkwX1_savedStates_0 ++ []
theorem dksX1_savedStates_0 : cX1_savedStates.data.toList.drop 0 = dktX1_savedStates_0 := by decide +kernel
theorem dX1_savedStates_0 : decode cX1_savedStates 0 = .ok (.aload_n 0, 1) := dk_42 (dk_at dksX1_savedStates_0 0 rfl rfl)
theorem dX1_savedStates_1 : decode cX1_savedStates 1 = .ok (.getfield 27, 3) := dk_180 0 27 (dk_at dksX1_savedStates_0 1 rfl rfl)
theorem dX1_savedStates_4 : decode cX1_savedStates 4 = .ok (.invokevirtual 38, 3) := dk_182 0 38 (dk_at dksX1_savedStates_0 4 rfl rfl)
theorem dX1_savedStates_7 : decode cX1_savedStates 7 = .ok (.ireturn, 1) := dk_172 (dk_at dksX1_savedStates_0 7 rfl rfl)
abbrev cX1_takeSnapshot : ByteArray := prog_1_method_65_code
def yX1_takeSnapshot : MethodName := ⟨RX1, "takeSnapshot", "()I"⟩
def dkwX1_takeSnapshot_0 : List UInt8 := [42, 42, 180, 0, 18, 182, 0, 46, 181, 1, 54, 42, 180, 0, 18, 180, 0, 81, 185, 0, 85, 1, 0, 172]
abbrev dktX1_takeSnapshot_0 : List UInt8 := dkwX1_takeSnapshot_0 ++ []
theorem dksX1_takeSnapshot_0 : cX1_takeSnapshot.data.toList.drop 0 = dktX1_takeSnapshot_0 := by decide +kernel
theorem dX1_takeSnapshot_0 : decode cX1_takeSnapshot 0 = .ok (.aload_n 0, 1) := dk_42 (dk_at dksX1_takeSnapshot_0 0 rfl rfl)
theorem dX1_takeSnapshot_1 : decode cX1_takeSnapshot 1 = .ok (.aload_n 0, 1) := dk_42 (dk_at dksX1_takeSnapshot_0 1 rfl rfl)
theorem dX1_takeSnapshot_2 : decode cX1_takeSnapshot 2 = .ok (.getfield 18, 3) := dk_180 0 18 (dk_at dksX1_takeSnapshot_0 2 rfl rfl)
theorem dX1_takeSnapshot_5 : decode cX1_takeSnapshot 5 = .ok (.invokevirtual 46, 3) := dk_182 0 46 (dk_at dksX1_takeSnapshot_0 5 rfl rfl)
theorem dX1_takeSnapshot_8 : decode cX1_takeSnapshot 8 = .ok (.putfield 310, 3) := dk_181 1 54 (dk_at dksX1_takeSnapshot_0 8 rfl rfl)
theorem dX1_takeSnapshot_11 : decode cX1_takeSnapshot 11 = .ok (.aload_n 0, 1) := dk_42 (dk_at dksX1_takeSnapshot_0 11 rfl rfl)
theorem dX1_takeSnapshot_12 : decode cX1_takeSnapshot 12 = .ok (.getfield 18, 3) := dk_180 0 18 (dk_at dksX1_takeSnapshot_0 12 rfl rfl)
theorem dX1_takeSnapshot_15 : decode cX1_takeSnapshot 15 = .ok (.getfield 81, 3) := dk_180 0 81 (dk_at dksX1_takeSnapshot_0 15 rfl rfl)
theorem dX1_takeSnapshot_18 : decode cX1_takeSnapshot 18 = .ok (.invokeinterface 85 1, 5) := by decide +kernel
theorem dX1_takeSnapshot_23 : decode cX1_takeSnapshot 23 = .ok (.ireturn, 1) := dk_172 (dk_at dksX1_takeSnapshot_0 23 rfl rfl)
abbrev cX1_adjust : ByteArray := prog_1_method_16_code
def yX1_adjust : MethodName := ⟨RX1, "adjust", "(III)I"⟩
def dkwX1_adjust_1 : List UInt8 := [182, 0, 106, 180, 0, 130, 54, 4, 42, 27, 28, 182, 0, 106, 29, 181, 0, 130, 21, 4, 172]
abbrev dktX1_adjust_1 : List UInt8 := dkwX1_adjust_1 ++ []
def dkwX1_adjust_0 : List UInt8 := [42, 27, 28, 182, 0, 106, 87, 29, 16, 216, 16, 40, 184, 0, 123, 42, 182, 0, 127, 42, 27, 28]
abbrev dktX1_adjust_0 : List UInt8 := dkwX1_adjust_0 ++ dktX1_adjust_1
theorem dksX1_adjust_0 : cX1_adjust.data.toList.drop 0 = dktX1_adjust_0 := by decide +kernel
theorem dksX1_adjust_1 : cX1_adjust.data.toList.drop 22 = dktX1_adjust_1 := dk_seg dksX1_adjust_0 22 rfl rfl
theorem dX1_adjust_0 : decode cX1_adjust 0 = .ok (.aload_n 0, 1) := dk_42 (dk_at dksX1_adjust_0 0 rfl rfl)
theorem dX1_adjust_1 : decode cX1_adjust 1 = .ok (.iload_n 1, 1) := dk_27 (dk_at dksX1_adjust_0 1 rfl rfl)
theorem dX1_adjust_2 : decode cX1_adjust 2 = .ok (.iload_n 2, 1) := dk_28 (dk_at dksX1_adjust_0 2 rfl rfl)
theorem dX1_adjust_3 : decode cX1_adjust 3 = .ok (.invokevirtual 106, 3) := dk_182 0 106 (dk_at dksX1_adjust_0 3 rfl rfl)
theorem dX1_adjust_6 : decode cX1_adjust 6 = .ok (.pop, 1) := dk_87 (dk_at dksX1_adjust_0 6 rfl rfl)
theorem dX1_adjust_7 : decode cX1_adjust 7 = .ok (.iload_n 3, 1) := dk_29 (dk_at dksX1_adjust_0 7 rfl rfl)
theorem dX1_adjust_8 : decode cX1_adjust 8 = .ok (.bipush (-40), 2) := dk_16 216 (dk_at dksX1_adjust_0 8 rfl rfl)
theorem dX1_adjust_10 : decode cX1_adjust 10 = .ok (.bipush 40, 2) := dk_16 40 (dk_at dksX1_adjust_0 10 rfl rfl)
theorem dX1_adjust_12 : decode cX1_adjust 12 = .ok (.invokestatic 123, 3) := dk_184 0 123 (dk_at dksX1_adjust_0 12 rfl rfl)
theorem dX1_adjust_15 : decode cX1_adjust 15 = .ok (.aload_n 0, 1) := dk_42 (dk_at dksX1_adjust_0 15 rfl rfl)
theorem dX1_adjust_16 : decode cX1_adjust 16 = .ok (.invokevirtual 127, 3) := dk_182 0 127 (dk_at dksX1_adjust_0 16 rfl rfl)
theorem dX1_adjust_19 : decode cX1_adjust 19 = .ok (.aload_n 0, 1) := dk_42 (dk_at dksX1_adjust_0 19 rfl rfl)
theorem dX1_adjust_20 : decode cX1_adjust 20 = .ok (.iload_n 1, 1) := dk_27 (dk_at dksX1_adjust_0 20 rfl rfl)
theorem dX1_adjust_21 : decode cX1_adjust 21 = .ok (.iload_n 2, 1) := dk_28 (dk_at dksX1_adjust_0 21 rfl rfl)
theorem dX1_adjust_22 : decode cX1_adjust 22 = .ok (.invokevirtual 106, 3) := dk_182 0 106 (dk_at dksX1_adjust_1 0 rfl rfl)
theorem dX1_adjust_25 : decode cX1_adjust 25 = .ok (.getfield 130, 3) := dk_180 0 130 (dk_at dksX1_adjust_1 3 rfl rfl)
theorem dX1_adjust_28 : decode cX1_adjust 28 = .ok (.istore 4, 2) := dk_54 4 (dk_at dksX1_adjust_1 6 rfl rfl)
theorem dX1_adjust_30 : decode cX1_adjust 30 = .ok (.aload_n 0, 1) := dk_42 (dk_at dksX1_adjust_1 8 rfl rfl)
theorem dX1_adjust_31 : decode cX1_adjust 31 = .ok (.iload_n 1, 1) := dk_27 (dk_at dksX1_adjust_1 9 rfl rfl)
theorem dX1_adjust_32 : decode cX1_adjust 32 = .ok (.iload_n 2, 1) := dk_28 (dk_at dksX1_adjust_1 10 rfl rfl)
theorem dX1_adjust_33 : decode cX1_adjust 33 = .ok (.invokevirtual 106, 3) := dk_182 0 106 (dk_at dksX1_adjust_1 11 rfl rfl)
theorem dX1_adjust_36 : decode cX1_adjust 36 = .ok (.iload_n 3, 1) := dk_29 (dk_at dksX1_adjust_1 14 rfl rfl)
theorem dX1_adjust_37 : decode cX1_adjust 37 = .ok (.putfield 130, 3) := dk_181 0 130 (dk_at dksX1_adjust_1 15 rfl rfl)
theorem dX1_adjust_40 : decode cX1_adjust 40 = .ok (.iload 4, 2) := dk_21 4 (dk_at dksX1_adjust_1 18 rfl rfl)
theorem dX1_adjust_42 : decode cX1_adjust 42 = .ok (.ireturn, 1) := dk_172 (dk_at dksX1_adjust_1 20 rfl rfl)
abbrev cX1_head : ByteArray := prog_1_method_10_code
def yX1_head : MethodName := ⟨RX1, "head", "(II)LDiskPacks$Head;"⟩
def dkwX1_head_0 : List UInt8 := [42, 27, 182, 0, 71, 78, 28, 7, 184, 0, 63, 45, 28, 182, 0, 75, 176]
abbrev dktX1_head_0 : List UInt8 := dkwX1_head_0 ++ []
theorem dksX1_head_0 : cX1_head.data.toList.drop 0 = dktX1_head_0 := by decide +kernel
theorem dX1_head_0 : decode cX1_head 0 = .ok (.aload_n 0, 1) := dk_42 (dk_at dksX1_head_0 0 rfl rfl)
theorem dX1_head_1 : decode cX1_head 1 = .ok (.iload_n 1, 1) := dk_27 (dk_at dksX1_head_0 1 rfl rfl)
theorem dX1_head_2 : decode cX1_head 2 = .ok (.invokevirtual 71, 3) := dk_182 0 71 (dk_at dksX1_head_0 2 rfl rfl)
theorem dX1_head_5 : decode cX1_head 5 = .ok (.astore_n 3, 1) := dk_78 (dk_at dksX1_head_0 5 rfl rfl)
theorem dX1_head_6 : decode cX1_head 6 = .ok (.iload_n 2, 1) := dk_28 (dk_at dksX1_head_0 6 rfl rfl)
theorem dX1_head_7 : decode cX1_head 7 = .ok (.iconst 4, 1) := dk_7 (dk_at dksX1_head_0 7 rfl rfl)
theorem dX1_head_8 : decode cX1_head 8 = .ok (.invokestatic 63, 3) := dk_184 0 63 (dk_at dksX1_head_0 8 rfl rfl)
theorem dX1_head_11 : decode cX1_head 11 = .ok (.aload_n 3, 1) := dk_45 (dk_at dksX1_head_0 11 rfl rfl)
theorem dX1_head_12 : decode cX1_head 12 = .ok (.iload_n 2, 1) := dk_28 (dk_at dksX1_head_0 12 rfl rfl)
theorem dX1_head_13 : decode cX1_head 13 = .ok (.invokevirtual 75, 3) := dk_182 0 75 (dk_at dksX1_head_0 13 rfl rfl)
theorem dX1_head_16 : decode cX1_head 16 = .ok (.areturn, 1) := dk_176 (dk_at dksX1_head_0 16 rfl rfl)
abbrev cX1_drive : ByteArray := prog_1_method_9_code
def yX1_drive : MethodName := ⟨RX1, "drive", "(I)LDiskPacks$Drive;"⟩
def dkwX1_drive_0 : List UInt8 := [27, 7, 184, 0, 63, 42, 180, 0, 18, 180, 0, 67, 27, 50, 176]
abbrev dktX1_drive_0 : List UInt8 := dkwX1_drive_0 ++ []
theorem dksX1_drive_0 : cX1_drive.data.toList.drop 0 = dktX1_drive_0 := by decide +kernel
theorem dX1_drive_0 : decode cX1_drive 0 = .ok (.iload_n 1, 1) := dk_27 (dk_at dksX1_drive_0 0 rfl rfl)
theorem dX1_drive_1 : decode cX1_drive 1 = .ok (.iconst 4, 1) := dk_7 (dk_at dksX1_drive_0 1 rfl rfl)
theorem dX1_drive_2 : decode cX1_drive 2 = .ok (.invokestatic 63, 3) := dk_184 0 63 (dk_at dksX1_drive_0 2 rfl rfl)
theorem dX1_drive_5 : decode cX1_drive 5 = .ok (.aload_n 0, 1) := dk_42 (dk_at dksX1_drive_0 5 rfl rfl)
theorem dX1_drive_6 : decode cX1_drive 6 = .ok (.getfield 18, 3) := dk_180 0 18 (dk_at dksX1_drive_0 6 rfl rfl)
theorem dX1_drive_9 : decode cX1_drive 9 = .ok (.getfield 67, 3) := dk_180 0 67 (dk_at dksX1_drive_0 9 rfl rfl)
theorem dX1_drive_12 : decode cX1_drive 12 = .ok (.iload_n 1, 1) := dk_27 (dk_at dksX1_drive_0 12 rfl rfl)
theorem dX1_drive_13 : decode cX1_drive 13 = .ok (.aaload, 1) := dk_50 (dk_at dksX1_drive_0 13 rfl rfl)
theorem dX1_drive_14 : decode cX1_drive 14 = .ok (.areturn, 1) := dk_176 (dk_at dksX1_drive_0 14 rfl rfl)
abbrev cX1_checkNumber : ByteArray := prog_1_method_6_code
def yX1_checkNumber : MethodName := ⟨RX1, "checkNumber", "(II)V"⟩
def dkwX1_checkNumber_0 : List UInt8 := [26, 155, 0, 8, 26, 27, 161, 0, 11, 187, 0, 54, 89, 183, 0, 56, 191, 177]
abbrev dktX1_checkNumber_0 : List UInt8 := dkwX1_checkNumber_0 ++ []
theorem dksX1_checkNumber_0 : cX1_checkNumber.data.toList.drop 0 = dktX1_checkNumber_0 := by decide +kernel
theorem dX1_checkNumber_0 : decode cX1_checkNumber 0 = .ok (.iload_n 0, 1) := dk_26 (dk_at dksX1_checkNumber_0 0 rfl rfl)
theorem dX1_checkNumber_1 : decode cX1_checkNumber 1 = .ok (.ifCond .lt 8, 3) := dk_155 0 8 (dk_at dksX1_checkNumber_0 1 rfl rfl)
theorem dX1_checkNumber_4 : decode cX1_checkNumber 4 = .ok (.iload_n 0, 1) := dk_26 (dk_at dksX1_checkNumber_0 4 rfl rfl)
theorem dX1_checkNumber_5 : decode cX1_checkNumber 5 = .ok (.iload_n 1, 1) := dk_27 (dk_at dksX1_checkNumber_0 5 rfl rfl)
theorem dX1_checkNumber_6 : decode cX1_checkNumber 6 = .ok (.if_icmp .lt 11, 3) := dk_161 0 11 (dk_at dksX1_checkNumber_0 6 rfl rfl)
theorem dX1_checkNumber_9 : decode cX1_checkNumber 9 = .ok (.new 54, 3) := dk_187 0 54 (dk_at dksX1_checkNumber_0 9 rfl rfl)
theorem dX1_checkNumber_12 : decode cX1_checkNumber 12 = .ok (.dup, 1) := dk_89 (dk_at dksX1_checkNumber_0 12 rfl rfl)
theorem dX1_checkNumber_13 : decode cX1_checkNumber 13 = .ok (.invokespecial 56, 3) := dk_183 0 56 (dk_at dksX1_checkNumber_0 13 rfl rfl)
theorem dX1_checkNumber_16 : decode cX1_checkNumber 16 = .ok (.athrow, 1) := dk_191 (dk_at dksX1_checkNumber_0 16 rfl rfl)
theorem dX1_checkNumber_17 : decode cX1_checkNumber 17 = .ok (.return_, 1) := dk_177 (dk_at dksX1_checkNumber_0 17 rfl rfl)
abbrev cX1_checkRange : ByteArray := prog_1_method_7_code
def yX1_checkRange : MethodName := ⟨RX1, "checkRange", "(III)V"⟩
def dkwX1_checkRange_0 : List UInt8 := [26, 27, 161, 0, 8, 26, 28, 164, 0, 11, 187, 0, 57, 89, 183, 0, 59, 191, 177]
abbrev dktX1_checkRange_0 : List UInt8 := dkwX1_checkRange_0 ++ []
theorem dksX1_checkRange_0 : cX1_checkRange.data.toList.drop 0 = dktX1_checkRange_0 := by decide +kernel
theorem dX1_checkRange_0 : decode cX1_checkRange 0 = .ok (.iload_n 0, 1) := dk_26 (dk_at dksX1_checkRange_0 0 rfl rfl)
theorem dX1_checkRange_1 : decode cX1_checkRange 1 = .ok (.iload_n 1, 1) := dk_27 (dk_at dksX1_checkRange_0 1 rfl rfl)
theorem dX1_checkRange_2 : decode cX1_checkRange 2 = .ok (.if_icmp .lt 8, 3) := dk_161 0 8 (dk_at dksX1_checkRange_0 2 rfl rfl)
theorem dX1_checkRange_5 : decode cX1_checkRange 5 = .ok (.iload_n 0, 1) := dk_26 (dk_at dksX1_checkRange_0 5 rfl rfl)
theorem dX1_checkRange_6 : decode cX1_checkRange 6 = .ok (.iload_n 2, 1) := dk_28 (dk_at dksX1_checkRange_0 6 rfl rfl)
theorem dX1_checkRange_7 : decode cX1_checkRange 7 = .ok (.if_icmp .le 11, 3) := dk_164 0 11 (dk_at dksX1_checkRange_0 7 rfl rfl)
theorem dX1_checkRange_10 : decode cX1_checkRange 10 = .ok (.new 57, 3) := dk_187 0 57 (dk_at dksX1_checkRange_0 10 rfl rfl)
theorem dX1_checkRange_13 : decode cX1_checkRange 13 = .ok (.dup, 1) := dk_89 (dk_at dksX1_checkRange_0 13 rfl rfl)
theorem dX1_checkRange_14 : decode cX1_checkRange 14 = .ok (.invokespecial 59, 3) := dk_183 0 59 (dk_at dksX1_checkRange_0 14 rfl rfl)
theorem dX1_checkRange_17 : decode cX1_checkRange 17 = .ok (.athrow, 1) := dk_191 (dk_at dksX1_checkRange_0 17 rfl rfl)
theorem dX1_checkRange_18 : decode cX1_checkRange 18 = .ok (.return_, 1) := dk_177 (dk_at dksX1_checkRange_0 18 rfl rfl)
abbrev cX1_save : ByteArray := prog_1_method_5_code
def yX1_save : MethodName := ⟨RX1, "save", "()V"⟩
def dkwX1_save_1 : List UInt8 := [180, 0, 18, 182, 0, 46, 182, 0, 50, 177]
abbrev dktX1_save_1 : List UInt8 := dkwX1_save_1 ++ []
def dkwX1_save_0 : List UInt8 := [42, 180, 0, 27, 182, 0, 38, 8, 160, 0, 11, 42, 180, 0, 27, 182, 0, 42, 87, 42, 180, 0, 27, 42]
abbrev dktX1_save_0 : List UInt8 := dkwX1_save_0 ++ dktX1_save_1
theorem dksX1_save_0 : cX1_save.data.toList.drop 0 = dktX1_save_0 := by decide +kernel
theorem dksX1_save_1 : cX1_save.data.toList.drop 24 = dktX1_save_1 := dk_seg dksX1_save_0 24 rfl rfl
theorem dX1_save_0 : decode cX1_save 0 = .ok (.aload_n 0, 1) := dk_42 (dk_at dksX1_save_0 0 rfl rfl)
theorem dX1_save_1 : decode cX1_save 1 = .ok (.getfield 27, 3) := dk_180 0 27 (dk_at dksX1_save_0 1 rfl rfl)
theorem dX1_save_4 : decode cX1_save 4 = .ok (.invokevirtual 38, 3) := dk_182 0 38 (dk_at dksX1_save_0 4 rfl rfl)
theorem dX1_save_7 : decode cX1_save 7 = .ok (.iconst 5, 1) := dk_8 (dk_at dksX1_save_0 7 rfl rfl)
theorem dX1_save_8 : decode cX1_save 8 = .ok (.if_icmp .ne 11, 3) := dk_160 0 11 (dk_at dksX1_save_0 8 rfl rfl)
theorem dX1_save_11 : decode cX1_save 11 = .ok (.aload_n 0, 1) := dk_42 (dk_at dksX1_save_0 11 rfl rfl)
theorem dX1_save_12 : decode cX1_save 12 = .ok (.getfield 27, 3) := dk_180 0 27 (dk_at dksX1_save_0 12 rfl rfl)
theorem dX1_save_15 : decode cX1_save 15 = .ok (.invokevirtual 42, 3) := dk_182 0 42 (dk_at dksX1_save_0 15 rfl rfl)
theorem dX1_save_18 : decode cX1_save 18 = .ok (.pop, 1) := dk_87 (dk_at dksX1_save_0 18 rfl rfl)
theorem dX1_save_19 : decode cX1_save 19 = .ok (.aload_n 0, 1) := dk_42 (dk_at dksX1_save_0 19 rfl rfl)
theorem dX1_save_20 : decode cX1_save 20 = .ok (.getfield 27, 3) := dk_180 0 27 (dk_at dksX1_save_0 20 rfl rfl)
theorem dX1_save_23 : decode cX1_save 23 = .ok (.aload_n 0, 1) := dk_42 (dk_at dksX1_save_0 23 rfl rfl)
theorem dX1_save_24 : decode cX1_save 24 = .ok (.getfield 18, 3) := dk_180 0 18 (dk_at dksX1_save_1 0 rfl rfl)
theorem dX1_save_27 : decode cX1_save 27 = .ok (.invokevirtual 46, 3) := dk_182 0 46 (dk_at dksX1_save_1 3 rfl rfl)
theorem dX1_save_30 : decode cX1_save 30 = .ok (.invokevirtual 50, 3) := dk_182 0 50 (dk_at dksX1_save_1 6 rfl rfl)
theorem dX1_save_33 : decode cX1_save 33 = .ok (.return_, 1) := dk_177 (dk_at dksX1_save_1 9 rfl rfl)
abbrev cX1_warm : ByteArray := prog_1_method_17_code
def yX1_warm : MethodName := ⟨RX1, "warm", "(II)I"⟩
def dkwX1_warm_1 : List UInt8 := [180, 0, 136, 62, 42, 27, 182, 0, 71, 28, 181, 0, 136, 29, 172]
abbrev dktX1_warm_1 : List UInt8 := dkwX1_warm_1 ++ []
def dkwX1_warm_0 : List UInt8 := [42, 27, 182, 0, 71, 87, 28, 16, 236, 16, 20, 184, 0, 123, 42, 182, 0, 127, 42, 27, 182, 0, 71]
abbrev dktX1_warm_0 : List UInt8 := dkwX1_warm_0 ++ dktX1_warm_1
theorem dksX1_warm_0 : cX1_warm.data.toList.drop 0 = dktX1_warm_0 := by decide +kernel
theorem dksX1_warm_1 : cX1_warm.data.toList.drop 23 = dktX1_warm_1 := dk_seg dksX1_warm_0 23 rfl rfl
theorem dX1_warm_0 : decode cX1_warm 0 = .ok (.aload_n 0, 1) := dk_42 (dk_at dksX1_warm_0 0 rfl rfl)
theorem dX1_warm_1 : decode cX1_warm 1 = .ok (.iload_n 1, 1) := dk_27 (dk_at dksX1_warm_0 1 rfl rfl)
theorem dX1_warm_2 : decode cX1_warm 2 = .ok (.invokevirtual 71, 3) := dk_182 0 71 (dk_at dksX1_warm_0 2 rfl rfl)
theorem dX1_warm_5 : decode cX1_warm 5 = .ok (.pop, 1) := dk_87 (dk_at dksX1_warm_0 5 rfl rfl)
theorem dX1_warm_6 : decode cX1_warm 6 = .ok (.iload_n 2, 1) := dk_28 (dk_at dksX1_warm_0 6 rfl rfl)
theorem dX1_warm_7 : decode cX1_warm 7 = .ok (.bipush (-20), 2) := dk_16 236 (dk_at dksX1_warm_0 7 rfl rfl)
theorem dX1_warm_9 : decode cX1_warm 9 = .ok (.bipush 20, 2) := dk_16 20 (dk_at dksX1_warm_0 9 rfl rfl)
theorem dX1_warm_11 : decode cX1_warm 11 = .ok (.invokestatic 123, 3) := dk_184 0 123 (dk_at dksX1_warm_0 11 rfl rfl)
theorem dX1_warm_14 : decode cX1_warm 14 = .ok (.aload_n 0, 1) := dk_42 (dk_at dksX1_warm_0 14 rfl rfl)
theorem dX1_warm_15 : decode cX1_warm 15 = .ok (.invokevirtual 127, 3) := dk_182 0 127 (dk_at dksX1_warm_0 15 rfl rfl)
theorem dX1_warm_18 : decode cX1_warm 18 = .ok (.aload_n 0, 1) := dk_42 (dk_at dksX1_warm_0 18 rfl rfl)
theorem dX1_warm_19 : decode cX1_warm 19 = .ok (.iload_n 1, 1) := dk_27 (dk_at dksX1_warm_0 19 rfl rfl)
theorem dX1_warm_20 : decode cX1_warm 20 = .ok (.invokevirtual 71, 3) := dk_182 0 71 (dk_at dksX1_warm_0 20 rfl rfl)
theorem dX1_warm_23 : decode cX1_warm 23 = .ok (.getfield 136, 3) := dk_180 0 136 (dk_at dksX1_warm_1 0 rfl rfl)
theorem dX1_warm_26 : decode cX1_warm 26 = .ok (.istore_n 3, 1) := dk_62 (dk_at dksX1_warm_1 3 rfl rfl)
theorem dX1_warm_27 : decode cX1_warm 27 = .ok (.aload_n 0, 1) := dk_42 (dk_at dksX1_warm_1 4 rfl rfl)
theorem dX1_warm_28 : decode cX1_warm 28 = .ok (.iload_n 1, 1) := dk_27 (dk_at dksX1_warm_1 5 rfl rfl)
theorem dX1_warm_29 : decode cX1_warm 29 = .ok (.invokevirtual 71, 3) := dk_182 0 71 (dk_at dksX1_warm_1 6 rfl rfl)
theorem dX1_warm_32 : decode cX1_warm 32 = .ok (.iload_n 2, 1) := dk_28 (dk_at dksX1_warm_1 9 rfl rfl)
theorem dX1_warm_33 : decode cX1_warm 33 = .ok (.putfield 136, 3) := dk_181 0 136 (dk_at dksX1_warm_1 10 rfl rfl)
theorem dX1_warm_36 : decode cX1_warm 36 = .ok (.iload_n 3, 1) := dk_29 (dk_at dksX1_warm_1 13 rfl rfl)
theorem dX1_warm_37 : decode cX1_warm 37 = .ok (.ireturn, 1) := dk_172 (dk_at dksX1_warm_1 14 rfl rfl)
abbrev cX1_setServo : ByteArray := prog_1_method_18_code
def yX1_setServo : MethodName := ⟨RX1, "setServo", "(IZ)Z"⟩
def dkwX1_setServo_2 : List UInt8 := [87, 29, 172]
abbrev dktX1_setServo_2 : List UInt8 := dkwX1_setServo_2 ++ []
def dkwX1_setServo_1 : List UInt8 := [154, 0, 7, 4, 167, 0, 4, 3, 184, 0, 119, 42, 182, 0, 127, 42, 180, 0, 18, 27, 28, 182, 0, 150]
abbrev dktX1_setServo_1 : List UInt8 := dkwX1_setServo_1 ++ dktX1_setServo_2
def dkwX1_setServo_0 : List UInt8 := [42, 27, 182, 0, 71, 180, 0, 139, 62, 28, 153, 0, 17, 42, 27, 182, 0, 71, 180, 0, 143, 180, 0, 147]
abbrev dktX1_setServo_0 : List UInt8 := dkwX1_setServo_0 ++ dktX1_setServo_1
theorem dksX1_setServo_0 : cX1_setServo.data.toList.drop 0 = dktX1_setServo_0 := by decide +kernel
theorem dksX1_setServo_1 : cX1_setServo.data.toList.drop 24 = dktX1_setServo_1 := dk_seg dksX1_setServo_0 24 rfl rfl
theorem dksX1_setServo_2 : cX1_setServo.data.toList.drop 48 = dktX1_setServo_2 := dk_seg dksX1_setServo_1 24 rfl rfl
theorem dX1_setServo_0 : decode cX1_setServo 0 = .ok (.aload_n 0, 1) := dk_42 (dk_at dksX1_setServo_0 0 rfl rfl)
theorem dX1_setServo_1 : decode cX1_setServo 1 = .ok (.iload_n 1, 1) := dk_27 (dk_at dksX1_setServo_0 1 rfl rfl)
theorem dX1_setServo_2 : decode cX1_setServo 2 = .ok (.invokevirtual 71, 3) := dk_182 0 71 (dk_at dksX1_setServo_0 2 rfl rfl)
theorem dX1_setServo_5 : decode cX1_setServo 5 = .ok (.getfield 139, 3) := dk_180 0 139 (dk_at dksX1_setServo_0 5 rfl rfl)
theorem dX1_setServo_8 : decode cX1_setServo 8 = .ok (.istore_n 3, 1) := dk_62 (dk_at dksX1_setServo_0 8 rfl rfl)
theorem dX1_setServo_9 : decode cX1_setServo 9 = .ok (.iload_n 2, 1) := dk_28 (dk_at dksX1_setServo_0 9 rfl rfl)
theorem dX1_setServo_10 : decode cX1_setServo 10 = .ok (.ifCond .eq 17, 3) := dk_153 0 17 (dk_at dksX1_setServo_0 10 rfl rfl)
theorem dX1_setServo_13 : decode cX1_setServo 13 = .ok (.aload_n 0, 1) := dk_42 (dk_at dksX1_setServo_0 13 rfl rfl)
theorem dX1_setServo_14 : decode cX1_setServo 14 = .ok (.iload_n 1, 1) := dk_27 (dk_at dksX1_setServo_0 14 rfl rfl)
theorem dX1_setServo_15 : decode cX1_setServo 15 = .ok (.invokevirtual 71, 3) := dk_182 0 71 (dk_at dksX1_setServo_0 15 rfl rfl)
theorem dX1_setServo_18 : decode cX1_setServo 18 = .ok (.getfield 143, 3) := dk_180 0 143 (dk_at dksX1_setServo_0 18 rfl rfl)
theorem dX1_setServo_21 : decode cX1_setServo 21 = .ok (.getfield 147, 3) := dk_180 0 147 (dk_at dksX1_setServo_0 21 rfl rfl)
theorem dX1_setServo_24 : decode cX1_setServo 24 = .ok (.ifCond .ne 7, 3) := dk_154 0 7 (dk_at dksX1_setServo_1 0 rfl rfl)
theorem dX1_setServo_27 : decode cX1_setServo 27 = .ok (.iconst 1, 1) := dk_4 (dk_at dksX1_setServo_1 3 rfl rfl)
theorem dX1_setServo_28 : decode cX1_setServo 28 = .ok (.goto 4, 3) := dk_167 0 4 (dk_at dksX1_setServo_1 4 rfl rfl)
theorem dX1_setServo_31 : decode cX1_setServo 31 = .ok (.iconst 0, 1) := dk_3 (dk_at dksX1_setServo_1 7 rfl rfl)
theorem dX1_setServo_32 : decode cX1_setServo 32 = .ok (.invokestatic 119, 3) := dk_184 0 119 (dk_at dksX1_setServo_1 8 rfl rfl)
theorem dX1_setServo_35 : decode cX1_setServo 35 = .ok (.aload_n 0, 1) := dk_42 (dk_at dksX1_setServo_1 11 rfl rfl)
theorem dX1_setServo_36 : decode cX1_setServo 36 = .ok (.invokevirtual 127, 3) := dk_182 0 127 (dk_at dksX1_setServo_1 12 rfl rfl)
theorem dX1_setServo_39 : decode cX1_setServo 39 = .ok (.aload_n 0, 1) := dk_42 (dk_at dksX1_setServo_1 15 rfl rfl)
theorem dX1_setServo_40 : decode cX1_setServo 40 = .ok (.getfield 18, 3) := dk_180 0 18 (dk_at dksX1_setServo_1 16 rfl rfl)
theorem dX1_setServo_43 : decode cX1_setServo 43 = .ok (.iload_n 1, 1) := dk_27 (dk_at dksX1_setServo_1 19 rfl rfl)
theorem dX1_setServo_44 : decode cX1_setServo 44 = .ok (.iload_n 2, 1) := dk_28 (dk_at dksX1_setServo_1 20 rfl rfl)
theorem dX1_setServo_45 : decode cX1_setServo 45 = .ok (.invokevirtual 150, 3) := dk_182 0 150 (dk_at dksX1_setServo_1 21 rfl rfl)
theorem dX1_setServo_48 : decode cX1_setServo 48 = .ok (.pop, 1) := dk_87 (dk_at dksX1_setServo_2 0 rfl rfl)
theorem dX1_setServo_49 : decode cX1_setServo 49 = .ok (.iload_n 3, 1) := dk_29 (dk_at dksX1_setServo_2 1 rfl rfl)
theorem dX1_setServo_50 : decode cX1_setServo 50 = .ok (.ireturn, 1) := dk_172 (dk_at dksX1_setServo_2 2 rfl rfl)
abbrev cX1_checkState : ByteArray := prog_1_method_8_code
def yX1_checkState : MethodName := ⟨RX1, "checkState", "(Z)V"⟩
def dkwX1_checkState_0 : List UInt8 := [26, 154, 0, 11, 187, 0, 60, 89, 183, 0, 62, 191, 177]
abbrev dktX1_checkState_0 : List UInt8 := dkwX1_checkState_0 ++ []
theorem dksX1_checkState_0 : cX1_checkState.data.toList.drop 0 = dktX1_checkState_0 := by decide +kernel
theorem dX1_checkState_0 : decode cX1_checkState 0 = .ok (.iload_n 0, 1) := dk_26 (dk_at dksX1_checkState_0 0 rfl rfl)
theorem dX1_checkState_1 : decode cX1_checkState 1 = .ok (.ifCond .ne 11, 3) := dk_154 0 11 (dk_at dksX1_checkState_0 1 rfl rfl)
theorem dX1_checkState_4 : decode cX1_checkState 4 = .ok (.new 60, 3) := dk_187 0 60 (dk_at dksX1_checkState_0 4 rfl rfl)
theorem dX1_checkState_7 : decode cX1_checkState 7 = .ok (.dup, 1) := dk_89 (dk_at dksX1_checkState_0 7 rfl rfl)
theorem dX1_checkState_8 : decode cX1_checkState 8 = .ok (.invokespecial 62, 3) := dk_183 0 62 (dk_at dksX1_checkState_0 8 rfl rfl)
theorem dX1_checkState_11 : decode cX1_checkState 11 = .ok (.athrow, 1) := dk_191 (dk_at dksX1_checkState_0 11 rfl rfl)
theorem dX1_checkState_12 : decode cX1_checkState 12 = .ok (.return_, 1) := dk_177 (dk_at dksX1_checkState_0 12 rfl rfl)
abbrev cX1_makePack : ByteArray := prog_1_method_19_code
def yX1_makePack : MethodName := ⟨RX1, "makePack", "(I)I"⟩
def dkwX1_makePack_1 : List UInt8 := [180, 0, 18, 27, 182, 0, 157, 42, 180, 0, 18, 180, 0, 81, 185, 0, 85, 1, 0, 4, 100, 172]
abbrev dktX1_makePack_1 : List UInt8 := dkwX1_makePack_1 ++ []
def dkwX1_makePack_0 : List UInt8 := [42, 27, 182, 0, 71, 87, 42, 180, 0, 18, 27, 182, 0, 154, 184, 0, 119, 42, 182, 0, 127, 42]
abbrev dktX1_makePack_0 : List UInt8 := dkwX1_makePack_0 ++ dktX1_makePack_1
theorem dksX1_makePack_0 : cX1_makePack.data.toList.drop 0 = dktX1_makePack_0 := by decide +kernel
theorem dksX1_makePack_1 : cX1_makePack.data.toList.drop 22 = dktX1_makePack_1 := dk_seg dksX1_makePack_0 22 rfl rfl
theorem dX1_makePack_0 : decode cX1_makePack 0 = .ok (.aload_n 0, 1) := dk_42 (dk_at dksX1_makePack_0 0 rfl rfl)
theorem dX1_makePack_1 : decode cX1_makePack 1 = .ok (.iload_n 1, 1) := dk_27 (dk_at dksX1_makePack_0 1 rfl rfl)
theorem dX1_makePack_2 : decode cX1_makePack 2 = .ok (.invokevirtual 71, 3) := dk_182 0 71 (dk_at dksX1_makePack_0 2 rfl rfl)
theorem dX1_makePack_5 : decode cX1_makePack 5 = .ok (.pop, 1) := dk_87 (dk_at dksX1_makePack_0 5 rfl rfl)
theorem dX1_makePack_6 : decode cX1_makePack 6 = .ok (.aload_n 0, 1) := dk_42 (dk_at dksX1_makePack_0 6 rfl rfl)
theorem dX1_makePack_7 : decode cX1_makePack 7 = .ok (.getfield 18, 3) := dk_180 0 18 (dk_at dksX1_makePack_0 7 rfl rfl)
theorem dX1_makePack_10 : decode cX1_makePack 10 = .ok (.iload_n 1, 1) := dk_27 (dk_at dksX1_makePack_0 10 rfl rfl)
theorem dX1_makePack_11 : decode cX1_makePack 11 = .ok (.invokevirtual 154, 3) := dk_182 0 154 (dk_at dksX1_makePack_0 11 rfl rfl)
theorem dX1_makePack_14 : decode cX1_makePack 14 = .ok (.invokestatic 119, 3) := dk_184 0 119 (dk_at dksX1_makePack_0 14 rfl rfl)
theorem dX1_makePack_17 : decode cX1_makePack 17 = .ok (.aload_n 0, 1) := dk_42 (dk_at dksX1_makePack_0 17 rfl rfl)
theorem dX1_makePack_18 : decode cX1_makePack 18 = .ok (.invokevirtual 127, 3) := dk_182 0 127 (dk_at dksX1_makePack_0 18 rfl rfl)
theorem dX1_makePack_21 : decode cX1_makePack 21 = .ok (.aload_n 0, 1) := dk_42 (dk_at dksX1_makePack_0 21 rfl rfl)
theorem dX1_makePack_22 : decode cX1_makePack 22 = .ok (.getfield 18, 3) := dk_180 0 18 (dk_at dksX1_makePack_1 0 rfl rfl)
theorem dX1_makePack_25 : decode cX1_makePack 25 = .ok (.iload_n 1, 1) := dk_27 (dk_at dksX1_makePack_1 3 rfl rfl)
theorem dX1_makePack_26 : decode cX1_makePack 26 = .ok (.invokevirtual 157, 3) := dk_182 0 157 (dk_at dksX1_makePack_1 4 rfl rfl)
theorem dX1_makePack_29 : decode cX1_makePack 29 = .ok (.aload_n 0, 1) := dk_42 (dk_at dksX1_makePack_1 7 rfl rfl)
theorem dX1_makePack_30 : decode cX1_makePack 30 = .ok (.getfield 18, 3) := dk_180 0 18 (dk_at dksX1_makePack_1 8 rfl rfl)
theorem dX1_makePack_33 : decode cX1_makePack 33 = .ok (.getfield 81, 3) := dk_180 0 81 (dk_at dksX1_makePack_1 11 rfl rfl)
theorem dX1_makePack_36 : decode cX1_makePack 36 = .ok (.invokeinterface 85 1, 5) := by decide +kernel
theorem dX1_makePack_41 : decode cX1_makePack 41 = .ok (.iconst 1, 1) := dk_4 (dk_at dksX1_makePack_1 19 rfl rfl)
theorem dX1_makePack_42 : decode cX1_makePack 42 = .ok (.isub, 1) := dk_100 (dk_at dksX1_makePack_1 20 rfl rfl)
theorem dX1_makePack_43 : decode cX1_makePack 43 = .ok (.ireturn, 1) := dk_172 (dk_at dksX1_makePack_1 21 rfl rfl)
abbrev cX1_mount : ByteArray := prog_1_method_20_code
def yX1_mount : MethodName := ⟨RX1, "mount", "(II)I"⟩
def dkwX1_mount_2 : List UInt8 := [172]
abbrev dktX1_mount_2 : List UInt8 := dkwX1_mount_2 ++ []
def dkwX1_mount_1 : List UInt8 := [42, 182, 0, 127, 42, 180, 0, 18, 27, 28, 182, 0, 165, 87, 42, 27, 182, 0, 71, 180, 0, 168, 28, 46]
abbrev dktX1_mount_1 : List UInt8 := dkwX1_mount_1 ++ dktX1_mount_2
def dkwX1_mount_0 : List UInt8 := [42, 27, 182, 0, 71, 87, 42, 28, 182, 0, 94, 87, 42, 180, 0, 18, 27, 28, 182, 0, 161, 184, 0, 119]
abbrev dktX1_mount_0 : List UInt8 := dkwX1_mount_0 ++ dktX1_mount_1
theorem dksX1_mount_0 : cX1_mount.data.toList.drop 0 = dktX1_mount_0 := by decide +kernel
theorem dksX1_mount_1 : cX1_mount.data.toList.drop 24 = dktX1_mount_1 := dk_seg dksX1_mount_0 24 rfl rfl
theorem dksX1_mount_2 : cX1_mount.data.toList.drop 48 = dktX1_mount_2 := dk_seg dksX1_mount_1 24 rfl rfl
theorem dX1_mount_0 : decode cX1_mount 0 = .ok (.aload_n 0, 1) := dk_42 (dk_at dksX1_mount_0 0 rfl rfl)
theorem dX1_mount_1 : decode cX1_mount 1 = .ok (.iload_n 1, 1) := dk_27 (dk_at dksX1_mount_0 1 rfl rfl)
theorem dX1_mount_2 : decode cX1_mount 2 = .ok (.invokevirtual 71, 3) := dk_182 0 71 (dk_at dksX1_mount_0 2 rfl rfl)
theorem dX1_mount_5 : decode cX1_mount 5 = .ok (.pop, 1) := dk_87 (dk_at dksX1_mount_0 5 rfl rfl)
theorem dX1_mount_6 : decode cX1_mount 6 = .ok (.aload_n 0, 1) := dk_42 (dk_at dksX1_mount_0 6 rfl rfl)
theorem dX1_mount_7 : decode cX1_mount 7 = .ok (.iload_n 2, 1) := dk_28 (dk_at dksX1_mount_0 7 rfl rfl)
theorem dX1_mount_8 : decode cX1_mount 8 = .ok (.invokevirtual 94, 3) := dk_182 0 94 (dk_at dksX1_mount_0 8 rfl rfl)
theorem dX1_mount_11 : decode cX1_mount 11 = .ok (.pop, 1) := dk_87 (dk_at dksX1_mount_0 11 rfl rfl)
theorem dX1_mount_12 : decode cX1_mount 12 = .ok (.aload_n 0, 1) := dk_42 (dk_at dksX1_mount_0 12 rfl rfl)
theorem dX1_mount_13 : decode cX1_mount 13 = .ok (.getfield 18, 3) := dk_180 0 18 (dk_at dksX1_mount_0 13 rfl rfl)
theorem dX1_mount_16 : decode cX1_mount 16 = .ok (.iload_n 1, 1) := dk_27 (dk_at dksX1_mount_0 16 rfl rfl)
theorem dX1_mount_17 : decode cX1_mount 17 = .ok (.iload_n 2, 1) := dk_28 (dk_at dksX1_mount_0 17 rfl rfl)
theorem dX1_mount_18 : decode cX1_mount 18 = .ok (.invokevirtual 161, 3) := dk_182 0 161 (dk_at dksX1_mount_0 18 rfl rfl)
theorem dX1_mount_21 : decode cX1_mount 21 = .ok (.invokestatic 119, 3) := dk_184 0 119 (dk_at dksX1_mount_0 21 rfl rfl)
theorem dX1_mount_24 : decode cX1_mount 24 = .ok (.aload_n 0, 1) := dk_42 (dk_at dksX1_mount_1 0 rfl rfl)
theorem dX1_mount_25 : decode cX1_mount 25 = .ok (.invokevirtual 127, 3) := dk_182 0 127 (dk_at dksX1_mount_1 1 rfl rfl)
theorem dX1_mount_28 : decode cX1_mount 28 = .ok (.aload_n 0, 1) := dk_42 (dk_at dksX1_mount_1 4 rfl rfl)
theorem dX1_mount_29 : decode cX1_mount 29 = .ok (.getfield 18, 3) := dk_180 0 18 (dk_at dksX1_mount_1 5 rfl rfl)
theorem dX1_mount_32 : decode cX1_mount 32 = .ok (.iload_n 1, 1) := dk_27 (dk_at dksX1_mount_1 8 rfl rfl)
theorem dX1_mount_33 : decode cX1_mount 33 = .ok (.iload_n 2, 1) := dk_28 (dk_at dksX1_mount_1 9 rfl rfl)
theorem dX1_mount_34 : decode cX1_mount 34 = .ok (.invokevirtual 165, 3) := dk_182 0 165 (dk_at dksX1_mount_1 10 rfl rfl)
theorem dX1_mount_37 : decode cX1_mount 37 = .ok (.pop, 1) := dk_87 (dk_at dksX1_mount_1 13 rfl rfl)
theorem dX1_mount_38 : decode cX1_mount 38 = .ok (.aload_n 0, 1) := dk_42 (dk_at dksX1_mount_1 14 rfl rfl)
theorem dX1_mount_39 : decode cX1_mount 39 = .ok (.iload_n 1, 1) := dk_27 (dk_at dksX1_mount_1 15 rfl rfl)
theorem dX1_mount_40 : decode cX1_mount 40 = .ok (.invokevirtual 71, 3) := dk_182 0 71 (dk_at dksX1_mount_1 16 rfl rfl)
theorem dX1_mount_43 : decode cX1_mount 43 = .ok (.getfield 168, 3) := dk_180 0 168 (dk_at dksX1_mount_1 19 rfl rfl)
theorem dX1_mount_46 : decode cX1_mount 46 = .ok (.iload_n 2, 1) := dk_28 (dk_at dksX1_mount_1 22 rfl rfl)
theorem dX1_mount_47 : decode cX1_mount 47 = .ok (.iaload, 1) := dk_46 (dk_at dksX1_mount_1 23 rfl rfl)
theorem dX1_mount_48 : decode cX1_mount 48 = .ok (.ireturn, 1) := dk_172 (dk_at dksX1_mount_2 0 rfl rfl)
abbrev cX1_pack : ByteArray := prog_1_method_11_code
def yX1_pack : MethodName := ⟨RX1, "pack", "(I)LDiskPacks$Pack;"⟩
def dkwX1_pack_1 : List UInt8 := [185, 0, 88, 2, 0, 192, 0, 92, 176]
abbrev dktX1_pack_1 : List UInt8 := dkwX1_pack_1 ++ []
def dkwX1_pack_0 : List UInt8 := [27, 42, 180, 0, 18, 180, 0, 81, 185, 0, 85, 1, 0, 184, 0, 63, 42, 180, 0, 18, 180, 0, 81, 27]
abbrev dktX1_pack_0 : List UInt8 := dkwX1_pack_0 ++ dktX1_pack_1
theorem dksX1_pack_0 : cX1_pack.data.toList.drop 0 = dktX1_pack_0 := by decide +kernel
theorem dksX1_pack_1 : cX1_pack.data.toList.drop 24 = dktX1_pack_1 := dk_seg dksX1_pack_0 24 rfl rfl
theorem dX1_pack_0 : decode cX1_pack 0 = .ok (.iload_n 1, 1) := dk_27 (dk_at dksX1_pack_0 0 rfl rfl)
theorem dX1_pack_1 : decode cX1_pack 1 = .ok (.aload_n 0, 1) := dk_42 (dk_at dksX1_pack_0 1 rfl rfl)
theorem dX1_pack_2 : decode cX1_pack 2 = .ok (.getfield 18, 3) := dk_180 0 18 (dk_at dksX1_pack_0 2 rfl rfl)
theorem dX1_pack_5 : decode cX1_pack 5 = .ok (.getfield 81, 3) := dk_180 0 81 (dk_at dksX1_pack_0 5 rfl rfl)
theorem dX1_pack_8 : decode cX1_pack 8 = .ok (.invokeinterface 85 1, 5) := by decide +kernel
theorem dX1_pack_13 : decode cX1_pack 13 = .ok (.invokestatic 63, 3) := dk_184 0 63 (dk_at dksX1_pack_0 13 rfl rfl)
theorem dX1_pack_16 : decode cX1_pack 16 = .ok (.aload_n 0, 1) := dk_42 (dk_at dksX1_pack_0 16 rfl rfl)
theorem dX1_pack_17 : decode cX1_pack 17 = .ok (.getfield 18, 3) := dk_180 0 18 (dk_at dksX1_pack_0 17 rfl rfl)
theorem dX1_pack_20 : decode cX1_pack 20 = .ok (.getfield 81, 3) := dk_180 0 81 (dk_at dksX1_pack_0 20 rfl rfl)
theorem dX1_pack_23 : decode cX1_pack 23 = .ok (.iload_n 1, 1) := dk_27 (dk_at dksX1_pack_0 23 rfl rfl)
theorem dX1_pack_24 : decode cX1_pack 24 = .ok (.invokeinterface 88 2, 5) := by decide +kernel
theorem dX1_pack_29 : decode cX1_pack 29 = .ok (.checkcast 92, 3) := dk_192 0 92 (dk_at dksX1_pack_1 5 rfl rfl)
theorem dX1_pack_32 : decode cX1_pack 32 = .ok (.areturn, 1) := dk_176 (dk_at dksX1_pack_1 8 rfl rfl)
abbrev cX1_unmount : ByteArray := prog_1_method_21_code
def yX1_unmount : MethodName := ⟨RX1, "unmount", "(I)I"⟩
def dkwX1_unmount_1 : List UInt8 := [182, 0, 127, 42, 180, 0, 18, 27, 182, 0, 174, 87, 28, 172]
abbrev dktX1_unmount_1 : List UInt8 := dkwX1_unmount_1 ++ []
def dkwX1_unmount_0 : List UInt8 := [42, 27, 182, 0, 71, 180, 0, 172, 61, 28, 2, 159, 0, 7, 4, 167, 0, 4, 3, 184, 0, 119, 42]
abbrev dktX1_unmount_0 : List UInt8 := dkwX1_unmount_0 ++ dktX1_unmount_1
theorem dksX1_unmount_0 : cX1_unmount.data.toList.drop 0 = dktX1_unmount_0 := by decide +kernel
theorem dksX1_unmount_1 : cX1_unmount.data.toList.drop 23 = dktX1_unmount_1 := dk_seg dksX1_unmount_0 23 rfl rfl
theorem dX1_unmount_0 : decode cX1_unmount 0 = .ok (.aload_n 0, 1) := dk_42 (dk_at dksX1_unmount_0 0 rfl rfl)
theorem dX1_unmount_1 : decode cX1_unmount 1 = .ok (.iload_n 1, 1) := dk_27 (dk_at dksX1_unmount_0 1 rfl rfl)
theorem dX1_unmount_2 : decode cX1_unmount 2 = .ok (.invokevirtual 71, 3) := dk_182 0 71 (dk_at dksX1_unmount_0 2 rfl rfl)
theorem dX1_unmount_5 : decode cX1_unmount 5 = .ok (.getfield 172, 3) := dk_180 0 172 (dk_at dksX1_unmount_0 5 rfl rfl)
theorem dX1_unmount_8 : decode cX1_unmount 8 = .ok (.istore_n 2, 1) := dk_61 (dk_at dksX1_unmount_0 8 rfl rfl)
theorem dX1_unmount_9 : decode cX1_unmount 9 = .ok (.iload_n 2, 1) := dk_28 (dk_at dksX1_unmount_0 9 rfl rfl)
theorem dX1_unmount_10 : decode cX1_unmount 10 = .ok (.iconst (-1), 1) := dk_2 (dk_at dksX1_unmount_0 10 rfl rfl)
theorem dX1_unmount_11 : decode cX1_unmount 11 = .ok (.if_icmp .eq 7, 3) := dk_159 0 7 (dk_at dksX1_unmount_0 11 rfl rfl)
theorem dX1_unmount_14 : decode cX1_unmount 14 = .ok (.iconst 1, 1) := dk_4 (dk_at dksX1_unmount_0 14 rfl rfl)
theorem dX1_unmount_15 : decode cX1_unmount 15 = .ok (.goto 4, 3) := dk_167 0 4 (dk_at dksX1_unmount_0 15 rfl rfl)
theorem dX1_unmount_18 : decode cX1_unmount 18 = .ok (.iconst 0, 1) := dk_3 (dk_at dksX1_unmount_0 18 rfl rfl)
theorem dX1_unmount_19 : decode cX1_unmount 19 = .ok (.invokestatic 119, 3) := dk_184 0 119 (dk_at dksX1_unmount_0 19 rfl rfl)
theorem dX1_unmount_22 : decode cX1_unmount 22 = .ok (.aload_n 0, 1) := dk_42 (dk_at dksX1_unmount_0 22 rfl rfl)
theorem dX1_unmount_23 : decode cX1_unmount 23 = .ok (.invokevirtual 127, 3) := dk_182 0 127 (dk_at dksX1_unmount_1 0 rfl rfl)
theorem dX1_unmount_26 : decode cX1_unmount 26 = .ok (.aload_n 0, 1) := dk_42 (dk_at dksX1_unmount_1 3 rfl rfl)
theorem dX1_unmount_27 : decode cX1_unmount 27 = .ok (.getfield 18, 3) := dk_180 0 18 (dk_at dksX1_unmount_1 4 rfl rfl)
theorem dX1_unmount_30 : decode cX1_unmount 30 = .ok (.iload_n 1, 1) := dk_27 (dk_at dksX1_unmount_1 7 rfl rfl)
theorem dX1_unmount_31 : decode cX1_unmount 31 = .ok (.invokevirtual 174, 3) := dk_182 0 174 (dk_at dksX1_unmount_1 8 rfl rfl)
theorem dX1_unmount_34 : decode cX1_unmount 34 = .ok (.pop, 1) := dk_87 (dk_at dksX1_unmount_1 11 rfl rfl)
theorem dX1_unmount_35 : decode cX1_unmount 35 = .ok (.iload_n 2, 1) := dk_28 (dk_at dksX1_unmount_1 12 rfl rfl)
theorem dX1_unmount_36 : decode cX1_unmount 36 = .ok (.ireturn, 1) := dk_172 (dk_at dksX1_unmount_1 13 rfl rfl)
abbrev cX1_seek : ByteArray := prog_1_method_22_code
def yX1_seek : MethodName := ⟨RX1, "seek", "(II)I"⟩
def dkwX1_seek_1 : List UInt8 := [184, 0, 119, 42, 182, 0, 127, 42, 180, 0, 18, 27, 28, 182, 0, 180, 87, 29, 28, 184, 0, 183, 172]
abbrev dktX1_seek_1 : List UInt8 := dkwX1_seek_1 ++ []
def dkwX1_seek_0 : List UInt8 := [42, 27, 182, 0, 71, 180, 0, 177, 62, 28, 16, 40, 184, 0, 63, 42, 180, 0, 18, 27, 182, 0, 116]
abbrev dktX1_seek_0 : List UInt8 := dkwX1_seek_0 ++ dktX1_seek_1
theorem dksX1_seek_0 : cX1_seek.data.toList.drop 0 = dktX1_seek_0 := by decide +kernel
theorem dksX1_seek_1 : cX1_seek.data.toList.drop 23 = dktX1_seek_1 := dk_seg dksX1_seek_0 23 rfl rfl
theorem dX1_seek_0 : decode cX1_seek 0 = .ok (.aload_n 0, 1) := dk_42 (dk_at dksX1_seek_0 0 rfl rfl)
theorem dX1_seek_1 : decode cX1_seek 1 = .ok (.iload_n 1, 1) := dk_27 (dk_at dksX1_seek_0 1 rfl rfl)
theorem dX1_seek_2 : decode cX1_seek 2 = .ok (.invokevirtual 71, 3) := dk_182 0 71 (dk_at dksX1_seek_0 2 rfl rfl)
theorem dX1_seek_5 : decode cX1_seek 5 = .ok (.getfield 177, 3) := dk_180 0 177 (dk_at dksX1_seek_0 5 rfl rfl)
theorem dX1_seek_8 : decode cX1_seek 8 = .ok (.istore_n 3, 1) := dk_62 (dk_at dksX1_seek_0 8 rfl rfl)
theorem dX1_seek_9 : decode cX1_seek 9 = .ok (.iload_n 2, 1) := dk_28 (dk_at dksX1_seek_0 9 rfl rfl)
theorem dX1_seek_10 : decode cX1_seek 10 = .ok (.bipush 40, 2) := dk_16 40 (dk_at dksX1_seek_0 10 rfl rfl)
theorem dX1_seek_12 : decode cX1_seek 12 = .ok (.invokestatic 63, 3) := dk_184 0 63 (dk_at dksX1_seek_0 12 rfl rfl)
theorem dX1_seek_15 : decode cX1_seek 15 = .ok (.aload_n 0, 1) := dk_42 (dk_at dksX1_seek_0 15 rfl rfl)
theorem dX1_seek_16 : decode cX1_seek 16 = .ok (.getfield 18, 3) := dk_180 0 18 (dk_at dksX1_seek_0 16 rfl rfl)
theorem dX1_seek_19 : decode cX1_seek 19 = .ok (.iload_n 1, 1) := dk_27 (dk_at dksX1_seek_0 19 rfl rfl)
theorem dX1_seek_20 : decode cX1_seek 20 = .ok (.invokevirtual 116, 3) := dk_182 0 116 (dk_at dksX1_seek_0 20 rfl rfl)
theorem dX1_seek_23 : decode cX1_seek 23 = .ok (.invokestatic 119, 3) := dk_184 0 119 (dk_at dksX1_seek_1 0 rfl rfl)
theorem dX1_seek_26 : decode cX1_seek 26 = .ok (.aload_n 0, 1) := dk_42 (dk_at dksX1_seek_1 3 rfl rfl)
theorem dX1_seek_27 : decode cX1_seek 27 = .ok (.invokevirtual 127, 3) := dk_182 0 127 (dk_at dksX1_seek_1 4 rfl rfl)
theorem dX1_seek_30 : decode cX1_seek 30 = .ok (.aload_n 0, 1) := dk_42 (dk_at dksX1_seek_1 7 rfl rfl)
theorem dX1_seek_31 : decode cX1_seek 31 = .ok (.getfield 18, 3) := dk_180 0 18 (dk_at dksX1_seek_1 8 rfl rfl)
theorem dX1_seek_34 : decode cX1_seek 34 = .ok (.iload_n 1, 1) := dk_27 (dk_at dksX1_seek_1 11 rfl rfl)
theorem dX1_seek_35 : decode cX1_seek 35 = .ok (.iload_n 2, 1) := dk_28 (dk_at dksX1_seek_1 12 rfl rfl)
theorem dX1_seek_36 : decode cX1_seek 36 = .ok (.invokevirtual 180, 3) := dk_182 0 180 (dk_at dksX1_seek_1 13 rfl rfl)
theorem dX1_seek_39 : decode cX1_seek 39 = .ok (.pop, 1) := dk_87 (dk_at dksX1_seek_1 16 rfl rfl)
theorem dX1_seek_40 : decode cX1_seek 40 = .ok (.iload_n 3, 1) := dk_29 (dk_at dksX1_seek_1 17 rfl rfl)
theorem dX1_seek_41 : decode cX1_seek 41 = .ok (.iload_n 2, 1) := dk_28 (dk_at dksX1_seek_1 18 rfl rfl)
theorem dX1_seek_42 : decode cX1_seek 42 = .ok (.invokestatic 183, 3) := dk_184 0 183 (dk_at dksX1_seek_1 19 rfl rfl)
theorem dX1_seek_45 : decode cX1_seek 45 = .ok (.ireturn, 1) := dk_172 (dk_at dksX1_seek_1 22 rfl rfl)
abbrev cX1_setTries : ByteArray := prog_1_method_23_code
def yX1_setTries : MethodName := ⟨RX1, "setTries", "(I)I"⟩
def dkwX1_setTries_1 : List UInt8 := [181, 0, 187, 28, 172]
abbrev dktX1_setTries_1 : List UInt8 := dkwX1_setTries_1 ++ []
def dkwX1_setTries_0 : List UInt8 := [27, 3, 16, 8, 184, 0, 123, 42, 182, 0, 127, 42, 180, 0, 18, 180, 0, 187, 61, 42, 180, 0, 18, 27]
abbrev dktX1_setTries_0 : List UInt8 := dkwX1_setTries_0 ++ dktX1_setTries_1
theorem dksX1_setTries_0 : cX1_setTries.data.toList.drop 0 = dktX1_setTries_0 := by decide +kernel
theorem dksX1_setTries_1 : cX1_setTries.data.toList.drop 24 = dktX1_setTries_1 := dk_seg dksX1_setTries_0 24 rfl rfl
theorem dX1_setTries_0 : decode cX1_setTries 0 = .ok (.iload_n 1, 1) := dk_27 (dk_at dksX1_setTries_0 0 rfl rfl)
theorem dX1_setTries_1 : decode cX1_setTries 1 = .ok (.iconst 0, 1) := dk_3 (dk_at dksX1_setTries_0 1 rfl rfl)
theorem dX1_setTries_2 : decode cX1_setTries 2 = .ok (.bipush 8, 2) := dk_16 8 (dk_at dksX1_setTries_0 2 rfl rfl)
theorem dX1_setTries_4 : decode cX1_setTries 4 = .ok (.invokestatic 123, 3) := dk_184 0 123 (dk_at dksX1_setTries_0 4 rfl rfl)
theorem dX1_setTries_7 : decode cX1_setTries 7 = .ok (.aload_n 0, 1) := dk_42 (dk_at dksX1_setTries_0 7 rfl rfl)
theorem dX1_setTries_8 : decode cX1_setTries 8 = .ok (.invokevirtual 127, 3) := dk_182 0 127 (dk_at dksX1_setTries_0 8 rfl rfl)
theorem dX1_setTries_11 : decode cX1_setTries 11 = .ok (.aload_n 0, 1) := dk_42 (dk_at dksX1_setTries_0 11 rfl rfl)
theorem dX1_setTries_12 : decode cX1_setTries 12 = .ok (.getfield 18, 3) := dk_180 0 18 (dk_at dksX1_setTries_0 12 rfl rfl)
theorem dX1_setTries_15 : decode cX1_setTries 15 = .ok (.getfield 187, 3) := dk_180 0 187 (dk_at dksX1_setTries_0 15 rfl rfl)
theorem dX1_setTries_18 : decode cX1_setTries 18 = .ok (.istore_n 2, 1) := dk_61 (dk_at dksX1_setTries_0 18 rfl rfl)
theorem dX1_setTries_19 : decode cX1_setTries 19 = .ok (.aload_n 0, 1) := dk_42 (dk_at dksX1_setTries_0 19 rfl rfl)
theorem dX1_setTries_20 : decode cX1_setTries 20 = .ok (.getfield 18, 3) := dk_180 0 18 (dk_at dksX1_setTries_0 20 rfl rfl)
theorem dX1_setTries_23 : decode cX1_setTries 23 = .ok (.iload_n 1, 1) := dk_27 (dk_at dksX1_setTries_0 23 rfl rfl)
theorem dX1_setTries_24 : decode cX1_setTries 24 = .ok (.putfield 187, 3) := dk_181 0 187 (dk_at dksX1_setTries_1 0 rfl rfl)
theorem dX1_setTries_27 : decode cX1_setTries 27 = .ok (.iload_n 2, 1) := dk_28 (dk_at dksX1_setTries_1 3 rfl rfl)
theorem dX1_setTries_28 : decode cX1_setTries 28 = .ok (.ireturn, 1) := dk_172 (dk_at dksX1_setTries_1 4 rfl rfl)
abbrev cX1_forget : ByteArray := prog_1_method_24_code
def yX1_forget : MethodName := ⟨RX1, "forget", "(II)I"⟩
def dkwX1_forget_1 : List UInt8 := [28, 46, 62, 42, 27, 182, 0, 71, 180, 0, 168, 28, 3, 79, 29, 172]
abbrev dktX1_forget_1 : List UInt8 := dkwX1_forget_1 ++ []
def dkwX1_forget_0 : List UInt8 := [42, 27, 182, 0, 71, 87, 42, 28, 182, 0, 94, 87, 42, 182, 0, 127, 42, 27, 182, 0, 71, 180, 0, 168]
abbrev dktX1_forget_0 : List UInt8 := dkwX1_forget_0 ++ dktX1_forget_1
theorem dksX1_forget_0 : cX1_forget.data.toList.drop 0 = dktX1_forget_0 := by decide +kernel
theorem dksX1_forget_1 : cX1_forget.data.toList.drop 24 = dktX1_forget_1 := dk_seg dksX1_forget_0 24 rfl rfl
theorem dX1_forget_0 : decode cX1_forget 0 = .ok (.aload_n 0, 1) := dk_42 (dk_at dksX1_forget_0 0 rfl rfl)
theorem dX1_forget_1 : decode cX1_forget 1 = .ok (.iload_n 1, 1) := dk_27 (dk_at dksX1_forget_0 1 rfl rfl)
theorem dX1_forget_2 : decode cX1_forget 2 = .ok (.invokevirtual 71, 3) := dk_182 0 71 (dk_at dksX1_forget_0 2 rfl rfl)
theorem dX1_forget_5 : decode cX1_forget 5 = .ok (.pop, 1) := dk_87 (dk_at dksX1_forget_0 5 rfl rfl)
theorem dX1_forget_6 : decode cX1_forget 6 = .ok (.aload_n 0, 1) := dk_42 (dk_at dksX1_forget_0 6 rfl rfl)
theorem dX1_forget_7 : decode cX1_forget 7 = .ok (.iload_n 2, 1) := dk_28 (dk_at dksX1_forget_0 7 rfl rfl)
theorem dX1_forget_8 : decode cX1_forget 8 = .ok (.invokevirtual 94, 3) := dk_182 0 94 (dk_at dksX1_forget_0 8 rfl rfl)
theorem dX1_forget_11 : decode cX1_forget 11 = .ok (.pop, 1) := dk_87 (dk_at dksX1_forget_0 11 rfl rfl)
theorem dX1_forget_12 : decode cX1_forget 12 = .ok (.aload_n 0, 1) := dk_42 (dk_at dksX1_forget_0 12 rfl rfl)
theorem dX1_forget_13 : decode cX1_forget 13 = .ok (.invokevirtual 127, 3) := dk_182 0 127 (dk_at dksX1_forget_0 13 rfl rfl)
theorem dX1_forget_16 : decode cX1_forget 16 = .ok (.aload_n 0, 1) := dk_42 (dk_at dksX1_forget_0 16 rfl rfl)
theorem dX1_forget_17 : decode cX1_forget 17 = .ok (.iload_n 1, 1) := dk_27 (dk_at dksX1_forget_0 17 rfl rfl)
theorem dX1_forget_18 : decode cX1_forget 18 = .ok (.invokevirtual 71, 3) := dk_182 0 71 (dk_at dksX1_forget_0 18 rfl rfl)
theorem dX1_forget_21 : decode cX1_forget 21 = .ok (.getfield 168, 3) := dk_180 0 168 (dk_at dksX1_forget_0 21 rfl rfl)
theorem dX1_forget_24 : decode cX1_forget 24 = .ok (.iload_n 2, 1) := dk_28 (dk_at dksX1_forget_1 0 rfl rfl)
theorem dX1_forget_25 : decode cX1_forget 25 = .ok (.iaload, 1) := dk_46 (dk_at dksX1_forget_1 1 rfl rfl)
theorem dX1_forget_26 : decode cX1_forget 26 = .ok (.istore_n 3, 1) := dk_62 (dk_at dksX1_forget_1 2 rfl rfl)
theorem dX1_forget_27 : decode cX1_forget 27 = .ok (.aload_n 0, 1) := dk_42 (dk_at dksX1_forget_1 3 rfl rfl)
theorem dX1_forget_28 : decode cX1_forget 28 = .ok (.iload_n 1, 1) := dk_27 (dk_at dksX1_forget_1 4 rfl rfl)
theorem dX1_forget_29 : decode cX1_forget 29 = .ok (.invokevirtual 71, 3) := dk_182 0 71 (dk_at dksX1_forget_1 5 rfl rfl)
theorem dX1_forget_32 : decode cX1_forget 32 = .ok (.getfield 168, 3) := dk_180 0 168 (dk_at dksX1_forget_1 8 rfl rfl)
theorem dX1_forget_35 : decode cX1_forget 35 = .ok (.iload_n 2, 1) := dk_28 (dk_at dksX1_forget_1 11 rfl rfl)
theorem dX1_forget_36 : decode cX1_forget 36 = .ok (.iconst 0, 1) := dk_3 (dk_at dksX1_forget_1 12 rfl rfl)
theorem dX1_forget_37 : decode cX1_forget 37 = .ok (.iastore, 1) := dk_79 (dk_at dksX1_forget_1 13 rfl rfl)
theorem dX1_forget_38 : decode cX1_forget 38 = .ok (.iload_n 3, 1) := dk_29 (dk_at dksX1_forget_1 14 rfl rfl)
theorem dX1_forget_39 : decode cX1_forget 39 = .ok (.ireturn, 1) := dk_172 (dk_at dksX1_forget_1 15 rfl rfl)
abbrev cX1_write : ByteArray := prog_1_method_25_code
def yX1_write : MethodName := ⟨RX1, "write", "(III)I"⟩
def dkwX1_write_2 : List UInt8 := [182, 0, 194, 180, 0, 195, 42, 27, 182, 0, 71, 180, 0, 177, 46, 172]
abbrev dktX1_write_2 : List UInt8 := dkwX1_write_2 ++ []
def dkwX1_write_1 : List UInt8 := [184, 0, 119, 42, 182, 0, 127, 42, 180, 0, 18, 27, 28, 29, 182, 0, 190, 87, 42, 180, 0, 18, 27, 28]
abbrev dktX1_write_1 : List UInt8 := dkwX1_write_1 ++ dktX1_write_2
def dkwX1_write_0 : List UInt8 := [42, 27, 28, 182, 0, 113, 29, 3, 17, 3, 231, 184, 0, 123, 42, 180, 0, 18, 27, 182, 0, 116]
abbrev dktX1_write_0 : List UInt8 := dkwX1_write_0 ++ dktX1_write_1
theorem dksX1_write_0 : cX1_write.data.toList.drop 0 = dktX1_write_0 := by decide +kernel
theorem dksX1_write_1 : cX1_write.data.toList.drop 22 = dktX1_write_1 := dk_seg dksX1_write_0 22 rfl rfl
theorem dksX1_write_2 : cX1_write.data.toList.drop 46 = dktX1_write_2 := dk_seg dksX1_write_1 24 rfl rfl
theorem dX1_write_0 : decode cX1_write 0 = .ok (.aload_n 0, 1) := dk_42 (dk_at dksX1_write_0 0 rfl rfl)
theorem dX1_write_1 : decode cX1_write 1 = .ok (.iload_n 1, 1) := dk_27 (dk_at dksX1_write_0 1 rfl rfl)
theorem dX1_write_2 : decode cX1_write 2 = .ok (.iload_n 2, 1) := dk_28 (dk_at dksX1_write_0 2 rfl rfl)
theorem dX1_write_3 : decode cX1_write 3 = .ok (.invokevirtual 113, 3) := dk_182 0 113 (dk_at dksX1_write_0 3 rfl rfl)
theorem dX1_write_6 : decode cX1_write 6 = .ok (.iload_n 3, 1) := dk_29 (dk_at dksX1_write_0 6 rfl rfl)
theorem dX1_write_7 : decode cX1_write 7 = .ok (.iconst 0, 1) := dk_3 (dk_at dksX1_write_0 7 rfl rfl)
theorem dX1_write_8 : decode cX1_write 8 = .ok (.sipush 999, 3) := dk_17 3 231 (dk_at dksX1_write_0 8 rfl rfl)
theorem dX1_write_11 : decode cX1_write 11 = .ok (.invokestatic 123, 3) := dk_184 0 123 (dk_at dksX1_write_0 11 rfl rfl)
theorem dX1_write_14 : decode cX1_write 14 = .ok (.aload_n 0, 1) := dk_42 (dk_at dksX1_write_0 14 rfl rfl)
theorem dX1_write_15 : decode cX1_write 15 = .ok (.getfield 18, 3) := dk_180 0 18 (dk_at dksX1_write_0 15 rfl rfl)
theorem dX1_write_18 : decode cX1_write 18 = .ok (.iload_n 1, 1) := dk_27 (dk_at dksX1_write_0 18 rfl rfl)
theorem dX1_write_19 : decode cX1_write 19 = .ok (.invokevirtual 116, 3) := dk_182 0 116 (dk_at dksX1_write_0 19 rfl rfl)
theorem dX1_write_22 : decode cX1_write 22 = .ok (.invokestatic 119, 3) := dk_184 0 119 (dk_at dksX1_write_1 0 rfl rfl)
theorem dX1_write_25 : decode cX1_write 25 = .ok (.aload_n 0, 1) := dk_42 (dk_at dksX1_write_1 3 rfl rfl)
theorem dX1_write_26 : decode cX1_write 26 = .ok (.invokevirtual 127, 3) := dk_182 0 127 (dk_at dksX1_write_1 4 rfl rfl)
theorem dX1_write_29 : decode cX1_write 29 = .ok (.aload_n 0, 1) := dk_42 (dk_at dksX1_write_1 7 rfl rfl)
theorem dX1_write_30 : decode cX1_write 30 = .ok (.getfield 18, 3) := dk_180 0 18 (dk_at dksX1_write_1 8 rfl rfl)
theorem dX1_write_33 : decode cX1_write 33 = .ok (.iload_n 1, 1) := dk_27 (dk_at dksX1_write_1 11 rfl rfl)
theorem dX1_write_34 : decode cX1_write 34 = .ok (.iload_n 2, 1) := dk_28 (dk_at dksX1_write_1 12 rfl rfl)
theorem dX1_write_35 : decode cX1_write 35 = .ok (.iload_n 3, 1) := dk_29 (dk_at dksX1_write_1 13 rfl rfl)
theorem dX1_write_36 : decode cX1_write 36 = .ok (.invokevirtual 190, 3) := dk_182 0 190 (dk_at dksX1_write_1 14 rfl rfl)
theorem dX1_write_39 : decode cX1_write 39 = .ok (.pop, 1) := dk_87 (dk_at dksX1_write_1 17 rfl rfl)
theorem dX1_write_40 : decode cX1_write 40 = .ok (.aload_n 0, 1) := dk_42 (dk_at dksX1_write_1 18 rfl rfl)
theorem dX1_write_41 : decode cX1_write 41 = .ok (.getfield 18, 3) := dk_180 0 18 (dk_at dksX1_write_1 19 rfl rfl)
theorem dX1_write_44 : decode cX1_write 44 = .ok (.iload_n 1, 1) := dk_27 (dk_at dksX1_write_1 22 rfl rfl)
theorem dX1_write_45 : decode cX1_write 45 = .ok (.iload_n 2, 1) := dk_28 (dk_at dksX1_write_1 23 rfl rfl)
theorem dX1_write_46 : decode cX1_write 46 = .ok (.invokevirtual 194, 3) := dk_182 0 194 (dk_at dksX1_write_2 0 rfl rfl)
theorem dX1_write_49 : decode cX1_write 49 = .ok (.getfield 195, 3) := dk_180 0 195 (dk_at dksX1_write_2 3 rfl rfl)
theorem dX1_write_52 : decode cX1_write 52 = .ok (.aload_n 0, 1) := dk_42 (dk_at dksX1_write_2 6 rfl rfl)
theorem dX1_write_53 : decode cX1_write 53 = .ok (.iload_n 1, 1) := dk_27 (dk_at dksX1_write_2 7 rfl rfl)
theorem dX1_write_54 : decode cX1_write 54 = .ok (.invokevirtual 71, 3) := dk_182 0 71 (dk_at dksX1_write_2 8 rfl rfl)
theorem dX1_write_57 : decode cX1_write 57 = .ok (.getfield 177, 3) := dk_180 0 177 (dk_at dksX1_write_2 11 rfl rfl)
theorem dX1_write_60 : decode cX1_write 60 = .ok (.iaload, 1) := dk_46 (dk_at dksX1_write_2 14 rfl rfl)
theorem dX1_write_61 : decode cX1_write 61 = .ok (.ireturn, 1) := dk_172 (dk_at dksX1_write_2 15 rfl rfl)
abbrev cX1_checkData : ByteArray := prog_1_method_14_code
def yX1_checkData : MethodName := ⟨RX1, "checkData", "(II)V"⟩
def dkwX1_checkData_1 : List UInt8 := [183, 0, 56, 191, 177]
abbrev dktX1_checkData_1 : List UInt8 := dkwX1_checkData_1 ++ []
def dkwX1_checkData_0 : List UInt8 := [42, 27, 28, 182, 0, 106, 87, 42, 27, 182, 0, 71, 28, 182, 0, 109, 154, 0, 11, 187, 0, 54, 89]
abbrev dktX1_checkData_0 : List UInt8 := dkwX1_checkData_0 ++ dktX1_checkData_1
theorem dksX1_checkData_0 : cX1_checkData.data.toList.drop 0 = dktX1_checkData_0 := by decide +kernel
theorem dksX1_checkData_1 : cX1_checkData.data.toList.drop 23 = dktX1_checkData_1 := dk_seg dksX1_checkData_0 23 rfl rfl
theorem dX1_checkData_0 : decode cX1_checkData 0 = .ok (.aload_n 0, 1) := dk_42 (dk_at dksX1_checkData_0 0 rfl rfl)
theorem dX1_checkData_1 : decode cX1_checkData 1 = .ok (.iload_n 1, 1) := dk_27 (dk_at dksX1_checkData_0 1 rfl rfl)
theorem dX1_checkData_2 : decode cX1_checkData 2 = .ok (.iload_n 2, 1) := dk_28 (dk_at dksX1_checkData_0 2 rfl rfl)
theorem dX1_checkData_3 : decode cX1_checkData 3 = .ok (.invokevirtual 106, 3) := dk_182 0 106 (dk_at dksX1_checkData_0 3 rfl rfl)
theorem dX1_checkData_6 : decode cX1_checkData 6 = .ok (.pop, 1) := dk_87 (dk_at dksX1_checkData_0 6 rfl rfl)
theorem dX1_checkData_7 : decode cX1_checkData 7 = .ok (.aload_n 0, 1) := dk_42 (dk_at dksX1_checkData_0 7 rfl rfl)
theorem dX1_checkData_8 : decode cX1_checkData 8 = .ok (.iload_n 1, 1) := dk_27 (dk_at dksX1_checkData_0 8 rfl rfl)
theorem dX1_checkData_9 : decode cX1_checkData 9 = .ok (.invokevirtual 71, 3) := dk_182 0 71 (dk_at dksX1_checkData_0 9 rfl rfl)
theorem dX1_checkData_12 : decode cX1_checkData 12 = .ok (.iload_n 2, 1) := dk_28 (dk_at dksX1_checkData_0 12 rfl rfl)
theorem dX1_checkData_13 : decode cX1_checkData 13 = .ok (.invokevirtual 109, 3) := dk_182 0 109 (dk_at dksX1_checkData_0 13 rfl rfl)
theorem dX1_checkData_16 : decode cX1_checkData 16 = .ok (.ifCond .ne 11, 3) := dk_154 0 11 (dk_at dksX1_checkData_0 16 rfl rfl)
theorem dX1_checkData_19 : decode cX1_checkData 19 = .ok (.new 54, 3) := dk_187 0 54 (dk_at dksX1_checkData_0 19 rfl rfl)
theorem dX1_checkData_22 : decode cX1_checkData 22 = .ok (.dup, 1) := dk_89 (dk_at dksX1_checkData_0 22 rfl rfl)
theorem dX1_checkData_23 : decode cX1_checkData 23 = .ok (.invokespecial 56, 3) := dk_183 0 56 (dk_at dksX1_checkData_1 0 rfl rfl)
theorem dX1_checkData_26 : decode cX1_checkData 26 = .ok (.athrow, 1) := dk_191 (dk_at dksX1_checkData_1 3 rfl rfl)
theorem dX1_checkData_27 : decode cX1_checkData 27 = .ok (.return_, 1) := dk_177 (dk_at dksX1_checkData_1 4 rfl rfl)
abbrev cX1_read : ByteArray := prog_1_method_26_code
def yX1_read : MethodName := ⟨RX1, "read", "(II)I"⟩
def dkwX1_read_0 : List UInt8 := [42, 27, 28, 182, 0, 200, 42, 182, 0, 127, 42, 180, 0, 18, 27, 28, 182, 0, 203, 172]
abbrev dktX1_read_0 : List UInt8 := dkwX1_read_0 ++ []
theorem dksX1_read_0 : cX1_read.data.toList.drop 0 = dktX1_read_0 := by decide +kernel
theorem dX1_read_0 : decode cX1_read 0 = .ok (.aload_n 0, 1) := dk_42 (dk_at dksX1_read_0 0 rfl rfl)
theorem dX1_read_1 : decode cX1_read 1 = .ok (.iload_n 1, 1) := dk_27 (dk_at dksX1_read_0 1 rfl rfl)
theorem dX1_read_2 : decode cX1_read 2 = .ok (.iload_n 2, 1) := dk_28 (dk_at dksX1_read_0 2 rfl rfl)
theorem dX1_read_3 : decode cX1_read 3 = .ok (.invokevirtual 200, 3) := dk_182 0 200 (dk_at dksX1_read_0 3 rfl rfl)
theorem dX1_read_6 : decode cX1_read 6 = .ok (.aload_n 0, 1) := dk_42 (dk_at dksX1_read_0 6 rfl rfl)
theorem dX1_read_7 : decode cX1_read 7 = .ok (.invokevirtual 127, 3) := dk_182 0 127 (dk_at dksX1_read_0 7 rfl rfl)
theorem dX1_read_10 : decode cX1_read 10 = .ok (.aload_n 0, 1) := dk_42 (dk_at dksX1_read_0 10 rfl rfl)
theorem dX1_read_11 : decode cX1_read 11 = .ok (.getfield 18, 3) := dk_180 0 18 (dk_at dksX1_read_0 11 rfl rfl)
theorem dX1_read_14 : decode cX1_read 14 = .ok (.iload_n 1, 1) := dk_27 (dk_at dksX1_read_0 14 rfl rfl)
theorem dX1_read_15 : decode cX1_read 15 = .ok (.iload_n 2, 1) := dk_28 (dk_at dksX1_read_0 15 rfl rfl)
theorem dX1_read_16 : decode cX1_read 16 = .ok (.invokevirtual 203, 3) := dk_182 0 203 (dk_at dksX1_read_0 16 rfl rfl)
theorem dX1_read_19 : decode cX1_read 19 = .ok (.ireturn, 1) := dk_172 (dk_at dksX1_read_0 19 rfl rfl)
abbrev cX1_checkReady : ByteArray := prog_1_method_15_code
def yX1_checkReady : MethodName := ⟨RX1, "checkReady", "(II)V"⟩
def dkwX1_checkReady_0 : List UInt8 := [42, 27, 28, 182, 0, 113, 42, 180, 0, 18, 27, 182, 0, 116, 184, 0, 119, 177]
abbrev dktX1_checkReady_0 : List UInt8 := dkwX1_checkReady_0 ++ []
theorem dksX1_checkReady_0 : cX1_checkReady.data.toList.drop 0 = dktX1_checkReady_0 := by decide +kernel
theorem dX1_checkReady_0 : decode cX1_checkReady 0 = .ok (.aload_n 0, 1) := dk_42 (dk_at dksX1_checkReady_0 0 rfl rfl)
theorem dX1_checkReady_1 : decode cX1_checkReady 1 = .ok (.iload_n 1, 1) := dk_27 (dk_at dksX1_checkReady_0 1 rfl rfl)
theorem dX1_checkReady_2 : decode cX1_checkReady 2 = .ok (.iload_n 2, 1) := dk_28 (dk_at dksX1_checkReady_0 2 rfl rfl)
theorem dX1_checkReady_3 : decode cX1_checkReady 3 = .ok (.invokevirtual 113, 3) := dk_182 0 113 (dk_at dksX1_checkReady_0 3 rfl rfl)
theorem dX1_checkReady_6 : decode cX1_checkReady 6 = .ok (.aload_n 0, 1) := dk_42 (dk_at dksX1_checkReady_0 6 rfl rfl)
theorem dX1_checkReady_7 : decode cX1_checkReady 7 = .ok (.getfield 18, 3) := dk_180 0 18 (dk_at dksX1_checkReady_0 7 rfl rfl)
theorem dX1_checkReady_10 : decode cX1_checkReady 10 = .ok (.iload_n 1, 1) := dk_27 (dk_at dksX1_checkReady_0 10 rfl rfl)
theorem dX1_checkReady_11 : decode cX1_checkReady 11 = .ok (.invokevirtual 116, 3) := dk_182 0 116 (dk_at dksX1_checkReady_0 11 rfl rfl)
theorem dX1_checkReady_14 : decode cX1_checkReady 14 = .ok (.invokestatic 119, 3) := dk_184 0 119 (dk_at dksX1_checkReady_0 14 rfl rfl)
theorem dX1_checkReady_17 : decode cX1_checkReady 17 = .ok (.return_, 1) := dk_177 (dk_at dksX1_checkReady_0 17 rfl rfl)
abbrev cX1_strike : ByteArray := prog_1_method_27_code
def yX1_strike : MethodName := ⟨RX1, "strike", "(II)Z"⟩
def dkwX1_strike_1 : List UInt8 := [180, 0, 18, 27, 28, 182, 0, 206, 29, 172]
abbrev dktX1_strike_1 : List UInt8 := dkwX1_strike_1 ++ []
def dkwX1_strike_0 : List UInt8 := [42, 27, 28, 182, 0, 106, 180, 0, 147, 154, 0, 7, 4, 167, 0, 4, 3, 62, 42, 182, 0, 127, 42]
abbrev dktX1_strike_0 : List UInt8 := dkwX1_strike_0 ++ dktX1_strike_1
theorem dksX1_strike_0 : cX1_strike.data.toList.drop 0 = dktX1_strike_0 := by decide +kernel
theorem dksX1_strike_1 : cX1_strike.data.toList.drop 23 = dktX1_strike_1 := dk_seg dksX1_strike_0 23 rfl rfl
theorem dX1_strike_0 : decode cX1_strike 0 = .ok (.aload_n 0, 1) := dk_42 (dk_at dksX1_strike_0 0 rfl rfl)
theorem dX1_strike_1 : decode cX1_strike 1 = .ok (.iload_n 1, 1) := dk_27 (dk_at dksX1_strike_0 1 rfl rfl)
theorem dX1_strike_2 : decode cX1_strike 2 = .ok (.iload_n 2, 1) := dk_28 (dk_at dksX1_strike_0 2 rfl rfl)
theorem dX1_strike_3 : decode cX1_strike 3 = .ok (.invokevirtual 106, 3) := dk_182 0 106 (dk_at dksX1_strike_0 3 rfl rfl)
theorem dX1_strike_6 : decode cX1_strike 6 = .ok (.getfield 147, 3) := dk_180 0 147 (dk_at dksX1_strike_0 6 rfl rfl)
theorem dX1_strike_9 : decode cX1_strike 9 = .ok (.ifCond .ne 7, 3) := dk_154 0 7 (dk_at dksX1_strike_0 9 rfl rfl)
theorem dX1_strike_12 : decode cX1_strike 12 = .ok (.iconst 1, 1) := dk_4 (dk_at dksX1_strike_0 12 rfl rfl)
theorem dX1_strike_13 : decode cX1_strike 13 = .ok (.goto 4, 3) := dk_167 0 4 (dk_at dksX1_strike_0 13 rfl rfl)
theorem dX1_strike_16 : decode cX1_strike 16 = .ok (.iconst 0, 1) := dk_3 (dk_at dksX1_strike_0 16 rfl rfl)
theorem dX1_strike_17 : decode cX1_strike 17 = .ok (.istore_n 3, 1) := dk_62 (dk_at dksX1_strike_0 17 rfl rfl)
theorem dX1_strike_18 : decode cX1_strike 18 = .ok (.aload_n 0, 1) := dk_42 (dk_at dksX1_strike_0 18 rfl rfl)
theorem dX1_strike_19 : decode cX1_strike 19 = .ok (.invokevirtual 127, 3) := dk_182 0 127 (dk_at dksX1_strike_0 19 rfl rfl)
theorem dX1_strike_22 : decode cX1_strike 22 = .ok (.aload_n 0, 1) := dk_42 (dk_at dksX1_strike_0 22 rfl rfl)
theorem dX1_strike_23 : decode cX1_strike 23 = .ok (.getfield 18, 3) := dk_180 0 18 (dk_at dksX1_strike_1 0 rfl rfl)
theorem dX1_strike_26 : decode cX1_strike 26 = .ok (.iload_n 1, 1) := dk_27 (dk_at dksX1_strike_1 3 rfl rfl)
theorem dX1_strike_27 : decode cX1_strike 27 = .ok (.iload_n 2, 1) := dk_28 (dk_at dksX1_strike_1 4 rfl rfl)
theorem dX1_strike_28 : decode cX1_strike 28 = .ok (.invokevirtual 206, 3) := dk_182 0 206 (dk_at dksX1_strike_1 5 rfl rfl)
theorem dX1_strike_31 : decode cX1_strike 31 = .ok (.iload_n 3, 1) := dk_29 (dk_at dksX1_strike_1 8 rfl rfl)
theorem dX1_strike_32 : decode cX1_strike 32 = .ok (.ireturn, 1) := dk_172 (dk_at dksX1_strike_1 9 rfl rfl)
abbrev cX1_mend : ByteArray := prog_1_method_28_code
def yX1_mend : MethodName := ⟨RX1, "mend", "(II)I"⟩
def dkwX1_mend_1 : List UInt8 := [29, 172]
abbrev dktX1_mend_1 : List UInt8 := dkwX1_mend_1 ++ []
def dkwX1_mend_0 : List UInt8 := [42, 27, 28, 182, 0, 106, 180, 0, 130, 62, 42, 182, 0, 127, 42, 180, 0, 18, 27, 28, 182, 0, 209, 87]
abbrev dktX1_mend_0 : List UInt8 := dkwX1_mend_0 ++ dktX1_mend_1
theorem dksX1_mend_0 : cX1_mend.data.toList.drop 0 = dktX1_mend_0 := by decide +kernel
theorem dksX1_mend_1 : cX1_mend.data.toList.drop 24 = dktX1_mend_1 := dk_seg dksX1_mend_0 24 rfl rfl
theorem dX1_mend_0 : decode cX1_mend 0 = .ok (.aload_n 0, 1) := dk_42 (dk_at dksX1_mend_0 0 rfl rfl)
theorem dX1_mend_1 : decode cX1_mend 1 = .ok (.iload_n 1, 1) := dk_27 (dk_at dksX1_mend_0 1 rfl rfl)
theorem dX1_mend_2 : decode cX1_mend 2 = .ok (.iload_n 2, 1) := dk_28 (dk_at dksX1_mend_0 2 rfl rfl)
theorem dX1_mend_3 : decode cX1_mend 3 = .ok (.invokevirtual 106, 3) := dk_182 0 106 (dk_at dksX1_mend_0 3 rfl rfl)
theorem dX1_mend_6 : decode cX1_mend 6 = .ok (.getfield 130, 3) := dk_180 0 130 (dk_at dksX1_mend_0 6 rfl rfl)
theorem dX1_mend_9 : decode cX1_mend 9 = .ok (.istore_n 3, 1) := dk_62 (dk_at dksX1_mend_0 9 rfl rfl)
theorem dX1_mend_10 : decode cX1_mend 10 = .ok (.aload_n 0, 1) := dk_42 (dk_at dksX1_mend_0 10 rfl rfl)
theorem dX1_mend_11 : decode cX1_mend 11 = .ok (.invokevirtual 127, 3) := dk_182 0 127 (dk_at dksX1_mend_0 11 rfl rfl)
theorem dX1_mend_14 : decode cX1_mend 14 = .ok (.aload_n 0, 1) := dk_42 (dk_at dksX1_mend_0 14 rfl rfl)
theorem dX1_mend_15 : decode cX1_mend 15 = .ok (.getfield 18, 3) := dk_180 0 18 (dk_at dksX1_mend_0 15 rfl rfl)
theorem dX1_mend_18 : decode cX1_mend 18 = .ok (.iload_n 1, 1) := dk_27 (dk_at dksX1_mend_0 18 rfl rfl)
theorem dX1_mend_19 : decode cX1_mend 19 = .ok (.iload_n 2, 1) := dk_28 (dk_at dksX1_mend_0 19 rfl rfl)
theorem dX1_mend_20 : decode cX1_mend 20 = .ok (.invokevirtual 209, 3) := dk_182 0 209 (dk_at dksX1_mend_0 20 rfl rfl)
theorem dX1_mend_23 : decode cX1_mend 23 = .ok (.pop, 1) := dk_87 (dk_at dksX1_mend_0 23 rfl rfl)
theorem dX1_mend_24 : decode cX1_mend 24 = .ok (.iload_n 3, 1) := dk_29 (dk_at dksX1_mend_1 0 rfl rfl)
theorem dX1_mend_25 : decode cX1_mend 25 = .ok (.ireturn, 1) := dk_172 (dk_at dksX1_mend_1 1 rfl rfl)
abbrev cX1_polish : ByteArray := prog_1_method_29_code
def yX1_polish : MethodName := ⟨RX1, "polish", "(I)I"⟩
def dkwX1_polish_1 : List UInt8 := [42, 27, 182, 0, 94, 182, 0, 214, 172]
abbrev dktX1_polish_1 : List UInt8 := dkwX1_polish_1 ++ []
def dkwX1_polish_0 : List UInt8 := [42, 27, 182, 0, 94, 180, 0, 212, 2, 160, 0, 7, 4, 167, 0, 4, 3, 184, 0, 119, 42, 182, 0, 127]
abbrev dktX1_polish_0 : List UInt8 := dkwX1_polish_0 ++ dktX1_polish_1
theorem dksX1_polish_0 : cX1_polish.data.toList.drop 0 = dktX1_polish_0 := by decide +kernel
theorem dksX1_polish_1 : cX1_polish.data.toList.drop 24 = dktX1_polish_1 := dk_seg dksX1_polish_0 24 rfl rfl
theorem dX1_polish_0 : decode cX1_polish 0 = .ok (.aload_n 0, 1) := dk_42 (dk_at dksX1_polish_0 0 rfl rfl)
theorem dX1_polish_1 : decode cX1_polish 1 = .ok (.iload_n 1, 1) := dk_27 (dk_at dksX1_polish_0 1 rfl rfl)
theorem dX1_polish_2 : decode cX1_polish 2 = .ok (.invokevirtual 94, 3) := dk_182 0 94 (dk_at dksX1_polish_0 2 rfl rfl)
theorem dX1_polish_5 : decode cX1_polish 5 = .ok (.getfield 212, 3) := dk_180 0 212 (dk_at dksX1_polish_0 5 rfl rfl)
theorem dX1_polish_8 : decode cX1_polish 8 = .ok (.iconst (-1), 1) := dk_2 (dk_at dksX1_polish_0 8 rfl rfl)
theorem dX1_polish_9 : decode cX1_polish 9 = .ok (.if_icmp .ne 7, 3) := dk_160 0 7 (dk_at dksX1_polish_0 9 rfl rfl)
theorem dX1_polish_12 : decode cX1_polish 12 = .ok (.iconst 1, 1) := dk_4 (dk_at dksX1_polish_0 12 rfl rfl)
theorem dX1_polish_13 : decode cX1_polish 13 = .ok (.goto 4, 3) := dk_167 0 4 (dk_at dksX1_polish_0 13 rfl rfl)
theorem dX1_polish_16 : decode cX1_polish 16 = .ok (.iconst 0, 1) := dk_3 (dk_at dksX1_polish_0 16 rfl rfl)
theorem dX1_polish_17 : decode cX1_polish 17 = .ok (.invokestatic 119, 3) := dk_184 0 119 (dk_at dksX1_polish_0 17 rfl rfl)
theorem dX1_polish_20 : decode cX1_polish 20 = .ok (.aload_n 0, 1) := dk_42 (dk_at dksX1_polish_0 20 rfl rfl)
theorem dX1_polish_21 : decode cX1_polish 21 = .ok (.invokevirtual 127, 3) := dk_182 0 127 (dk_at dksX1_polish_0 21 rfl rfl)
theorem dX1_polish_24 : decode cX1_polish 24 = .ok (.aload_n 0, 1) := dk_42 (dk_at dksX1_polish_1 0 rfl rfl)
theorem dX1_polish_25 : decode cX1_polish 25 = .ok (.iload_n 1, 1) := dk_27 (dk_at dksX1_polish_1 1 rfl rfl)
theorem dX1_polish_26 : decode cX1_polish 26 = .ok (.invokevirtual 94, 3) := dk_182 0 94 (dk_at dksX1_polish_1 2 rfl rfl)
theorem dX1_polish_29 : decode cX1_polish 29 = .ok (.invokevirtual 214, 3) := dk_182 0 214 (dk_at dksX1_polish_1 5 rfl rfl)
theorem dX1_polish_32 : decode cX1_polish 32 = .ok (.ireturn, 1) := dk_172 (dk_at dksX1_polish_1 8 rfl rfl)
abbrev cX1_offsetOf : ByteArray := prog_1_method_30_code
def yX1_offsetOf : MethodName := ⟨RX1, "offsetOf", "(II)I"⟩
def dkwX1_offsetOf_0 : List UInt8 := [42, 27, 28, 182, 0, 106, 180, 0, 130, 172]
abbrev dktX1_offsetOf_0 : List UInt8 := dkwX1_offsetOf_0 ++ []
theorem dksX1_offsetOf_0 : cX1_offsetOf.data.toList.drop 0 = dktX1_offsetOf_0 := by decide +kernel
theorem dX1_offsetOf_0 : decode cX1_offsetOf 0 = .ok (.aload_n 0, 1) := dk_42 (dk_at dksX1_offsetOf_0 0 rfl rfl)
theorem dX1_offsetOf_1 : decode cX1_offsetOf 1 = .ok (.iload_n 1, 1) := dk_27 (dk_at dksX1_offsetOf_0 1 rfl rfl)
theorem dX1_offsetOf_2 : decode cX1_offsetOf 2 = .ok (.iload_n 2, 1) := dk_28 (dk_at dksX1_offsetOf_0 2 rfl rfl)
theorem dX1_offsetOf_3 : decode cX1_offsetOf 3 = .ok (.invokevirtual 106, 3) := dk_182 0 106 (dk_at dksX1_offsetOf_0 3 rfl rfl)
theorem dX1_offsetOf_6 : decode cX1_offsetOf 6 = .ok (.getfield 130, 3) := dk_180 0 130 (dk_at dksX1_offsetOf_0 6 rfl rfl)
theorem dX1_offsetOf_9 : decode cX1_offsetOf 9 = .ok (.ireturn, 1) := dk_172 (dk_at dksX1_offsetOf_0 9 rfl rfl)
abbrev cX1_isStruck : ByteArray := prog_1_method_31_code
def yX1_isStruck : MethodName := ⟨RX1, "isStruck", "(II)Z"⟩
def dkwX1_isStruck_0 : List UInt8 := [42, 27, 28, 182, 0, 106, 180, 0, 147, 172]
abbrev dktX1_isStruck_0 : List UInt8 := dkwX1_isStruck_0 ++ []
theorem dksX1_isStruck_0 : cX1_isStruck.data.toList.drop 0 = dktX1_isStruck_0 := by decide +kernel
theorem dX1_isStruck_0 : decode cX1_isStruck 0 = .ok (.aload_n 0, 1) := dk_42 (dk_at dksX1_isStruck_0 0 rfl rfl)
theorem dX1_isStruck_1 : decode cX1_isStruck 1 = .ok (.iload_n 1, 1) := dk_27 (dk_at dksX1_isStruck_0 1 rfl rfl)
theorem dX1_isStruck_2 : decode cX1_isStruck 2 = .ok (.iload_n 2, 1) := dk_28 (dk_at dksX1_isStruck_0 2 rfl rfl)
theorem dX1_isStruck_3 : decode cX1_isStruck 3 = .ok (.invokevirtual 106, 3) := dk_182 0 106 (dk_at dksX1_isStruck_0 3 rfl rfl)
theorem dX1_isStruck_6 : decode cX1_isStruck 6 = .ok (.getfield 147, 3) := dk_180 0 147 (dk_at dksX1_isStruck_0 6 rfl rfl)
theorem dX1_isStruck_9 : decode cX1_isStruck 9 = .ok (.ireturn, 1) := dk_172 (dk_at dksX1_isStruck_0 9 rfl rfl)
abbrev cX1_badPassesOf : ByteArray := prog_1_method_32_code
def yX1_badPassesOf : MethodName := ⟨RX1, "badPassesOf", "(II)I"⟩
def dkwX1_badPassesOf_0 : List UInt8 := [42, 27, 28, 182, 0, 106, 180, 0, 217, 172]
abbrev dktX1_badPassesOf_0 : List UInt8 := dkwX1_badPassesOf_0 ++ []
theorem dksX1_badPassesOf_0 : cX1_badPassesOf.data.toList.drop 0 = dktX1_badPassesOf_0 := by decide +kernel
theorem dX1_badPassesOf_0 : decode cX1_badPassesOf 0 = .ok (.aload_n 0, 1) := dk_42 (dk_at dksX1_badPassesOf_0 0 rfl rfl)
theorem dX1_badPassesOf_1 : decode cX1_badPassesOf 1 = .ok (.iload_n 1, 1) := dk_27 (dk_at dksX1_badPassesOf_0 1 rfl rfl)
theorem dX1_badPassesOf_2 : decode cX1_badPassesOf 2 = .ok (.iload_n 2, 1) := dk_28 (dk_at dksX1_badPassesOf_0 2 rfl rfl)
theorem dX1_badPassesOf_3 : decode cX1_badPassesOf 3 = .ok (.invokevirtual 106, 3) := dk_182 0 106 (dk_at dksX1_badPassesOf_0 3 rfl rfl)
theorem dX1_badPassesOf_6 : decode cX1_badPassesOf 6 = .ok (.getfield 217, 3) := dk_180 0 217 (dk_at dksX1_badPassesOf_0 6 rfl rfl)
theorem dX1_badPassesOf_9 : decode cX1_badPassesOf 9 = .ok (.ireturn, 1) := dk_172 (dk_at dksX1_badPassesOf_0 9 rfl rfl)
abbrev cX1_warmthOf : ByteArray := prog_1_method_33_code
def yX1_warmthOf : MethodName := ⟨RX1, "warmthOf", "(I)I"⟩
def dkwX1_warmthOf_0 : List UInt8 := [42, 27, 182, 0, 71, 180, 0, 136, 172]
abbrev dktX1_warmthOf_0 : List UInt8 := dkwX1_warmthOf_0 ++ []
theorem dksX1_warmthOf_0 : cX1_warmthOf.data.toList.drop 0 = dktX1_warmthOf_0 := by decide +kernel
theorem dX1_warmthOf_0 : decode cX1_warmthOf 0 = .ok (.aload_n 0, 1) := dk_42 (dk_at dksX1_warmthOf_0 0 rfl rfl)
theorem dX1_warmthOf_1 : decode cX1_warmthOf 1 = .ok (.iload_n 1, 1) := dk_27 (dk_at dksX1_warmthOf_0 1 rfl rfl)
theorem dX1_warmthOf_2 : decode cX1_warmthOf 2 = .ok (.invokevirtual 71, 3) := dk_182 0 71 (dk_at dksX1_warmthOf_0 2 rfl rfl)
theorem dX1_warmthOf_5 : decode cX1_warmthOf 5 = .ok (.getfield 136, 3) := dk_180 0 136 (dk_at dksX1_warmthOf_0 5 rfl rfl)
theorem dX1_warmthOf_8 : decode cX1_warmthOf 8 = .ok (.ireturn, 1) := dk_172 (dk_at dksX1_warmthOf_0 8 rfl rfl)
abbrev cX1_cylinderOf : ByteArray := prog_1_method_34_code
def yX1_cylinderOf : MethodName := ⟨RX1, "cylinderOf", "(I)I"⟩
def dkwX1_cylinderOf_0 : List UInt8 := [42, 27, 182, 0, 71, 180, 0, 177, 172]
abbrev dktX1_cylinderOf_0 : List UInt8 := dkwX1_cylinderOf_0 ++ []
theorem dksX1_cylinderOf_0 : cX1_cylinderOf.data.toList.drop 0 = dktX1_cylinderOf_0 := by decide +kernel
theorem dX1_cylinderOf_0 : decode cX1_cylinderOf 0 = .ok (.aload_n 0, 1) := dk_42 (dk_at dksX1_cylinderOf_0 0 rfl rfl)
theorem dX1_cylinderOf_1 : decode cX1_cylinderOf 1 = .ok (.iload_n 1, 1) := dk_27 (dk_at dksX1_cylinderOf_0 1 rfl rfl)
theorem dX1_cylinderOf_2 : decode cX1_cylinderOf 2 = .ok (.invokevirtual 71, 3) := dk_182 0 71 (dk_at dksX1_cylinderOf_0 2 rfl rfl)
theorem dX1_cylinderOf_5 : decode cX1_cylinderOf 5 = .ok (.getfield 177, 3) := dk_180 0 177 (dk_at dksX1_cylinderOf_0 5 rfl rfl)
theorem dX1_cylinderOf_8 : decode cX1_cylinderOf 8 = .ok (.ireturn, 1) := dk_172 (dk_at dksX1_cylinderOf_0 8 rfl rfl)
abbrev cX1_packIn : ByteArray := prog_1_method_35_code
def yX1_packIn : MethodName := ⟨RX1, "packIn", "(I)I"⟩
def dkwX1_packIn_0 : List UInt8 := [42, 27, 182, 0, 71, 180, 0, 172, 172]
abbrev dktX1_packIn_0 : List UInt8 := dkwX1_packIn_0 ++ []
theorem dksX1_packIn_0 : cX1_packIn.data.toList.drop 0 = dktX1_packIn_0 := by decide +kernel
theorem dX1_packIn_0 : decode cX1_packIn 0 = .ok (.aload_n 0, 1) := dk_42 (dk_at dksX1_packIn_0 0 rfl rfl)
theorem dX1_packIn_1 : decode cX1_packIn 1 = .ok (.iload_n 1, 1) := dk_27 (dk_at dksX1_packIn_0 1 rfl rfl)
theorem dX1_packIn_2 : decode cX1_packIn 2 = .ok (.invokevirtual 71, 3) := dk_182 0 71 (dk_at dksX1_packIn_0 2 rfl rfl)
theorem dX1_packIn_5 : decode cX1_packIn 5 = .ok (.getfield 172, 3) := dk_180 0 172 (dk_at dksX1_packIn_0 5 rfl rfl)
theorem dX1_packIn_8 : decode cX1_packIn 8 = .ok (.ireturn, 1) := dk_172 (dk_at dksX1_packIn_0 8 rfl rfl)
abbrev cX1_learned : ByteArray := prog_1_method_36_code
def yX1_learned : MethodName := ⟨RX1, "learned", "(II)I"⟩
def dkwX1_learned_0 : List UInt8 := [42, 27, 182, 0, 71, 87, 42, 28, 182, 0, 94, 87, 42, 27, 182, 0, 71, 180, 0, 168, 28, 46, 172]
abbrev dktX1_learned_0 : List UInt8 := dkwX1_learned_0 ++ []
theorem dksX1_learned_0 : cX1_learned.data.toList.drop 0 = dktX1_learned_0 := by decide +kernel
theorem dX1_learned_0 : decode cX1_learned 0 = .ok (.aload_n 0, 1) := dk_42 (dk_at dksX1_learned_0 0 rfl rfl)
theorem dX1_learned_1 : decode cX1_learned 1 = .ok (.iload_n 1, 1) := dk_27 (dk_at dksX1_learned_0 1 rfl rfl)
theorem dX1_learned_2 : decode cX1_learned 2 = .ok (.invokevirtual 71, 3) := dk_182 0 71 (dk_at dksX1_learned_0 2 rfl rfl)
theorem dX1_learned_5 : decode cX1_learned 5 = .ok (.pop, 1) := dk_87 (dk_at dksX1_learned_0 5 rfl rfl)
theorem dX1_learned_6 : decode cX1_learned 6 = .ok (.aload_n 0, 1) := dk_42 (dk_at dksX1_learned_0 6 rfl rfl)
theorem dX1_learned_7 : decode cX1_learned 7 = .ok (.iload_n 2, 1) := dk_28 (dk_at dksX1_learned_0 7 rfl rfl)
theorem dX1_learned_8 : decode cX1_learned 8 = .ok (.invokevirtual 94, 3) := dk_182 0 94 (dk_at dksX1_learned_0 8 rfl rfl)
theorem dX1_learned_11 : decode cX1_learned 11 = .ok (.pop, 1) := dk_87 (dk_at dksX1_learned_0 11 rfl rfl)
theorem dX1_learned_12 : decode cX1_learned 12 = .ok (.aload_n 0, 1) := dk_42 (dk_at dksX1_learned_0 12 rfl rfl)
theorem dX1_learned_13 : decode cX1_learned 13 = .ok (.iload_n 1, 1) := dk_27 (dk_at dksX1_learned_0 13 rfl rfl)
theorem dX1_learned_14 : decode cX1_learned 14 = .ok (.invokevirtual 71, 3) := dk_182 0 71 (dk_at dksX1_learned_0 14 rfl rfl)
theorem dX1_learned_17 : decode cX1_learned 17 = .ok (.getfield 168, 3) := dk_180 0 168 (dk_at dksX1_learned_0 17 rfl rfl)
theorem dX1_learned_20 : decode cX1_learned 20 = .ok (.iload_n 2, 1) := dk_28 (dk_at dksX1_learned_0 20 rfl rfl)
theorem dX1_learned_21 : decode cX1_learned 21 = .ok (.iaload, 1) := dk_46 (dk_at dksX1_learned_0 21 rfl rfl)
theorem dX1_learned_22 : decode cX1_learned 22 = .ok (.ireturn, 1) := dk_172 (dk_at dksX1_learned_0 22 rfl rfl)
abbrev cX1_placeOf : ByteArray := prog_1_method_37_code
def yX1_placeOf : MethodName := ⟨RX1, "placeOf", "(II)I"⟩
def dkwX1_placeOf_0 : List UInt8 := [42, 27, 28, 182, 0, 200, 42, 180, 0, 18, 27, 28, 182, 0, 220, 172]
abbrev dktX1_placeOf_0 : List UInt8 := dkwX1_placeOf_0 ++ []
theorem dksX1_placeOf_0 : cX1_placeOf.data.toList.drop 0 = dktX1_placeOf_0 := by decide +kernel
theorem dX1_placeOf_0 : decode cX1_placeOf 0 = .ok (.aload_n 0, 1) := dk_42 (dk_at dksX1_placeOf_0 0 rfl rfl)
theorem dX1_placeOf_1 : decode cX1_placeOf 1 = .ok (.iload_n 1, 1) := dk_27 (dk_at dksX1_placeOf_0 1 rfl rfl)
theorem dX1_placeOf_2 : decode cX1_placeOf 2 = .ok (.iload_n 2, 1) := dk_28 (dk_at dksX1_placeOf_0 2 rfl rfl)
theorem dX1_placeOf_3 : decode cX1_placeOf 3 = .ok (.invokevirtual 200, 3) := dk_182 0 200 (dk_at dksX1_placeOf_0 3 rfl rfl)
theorem dX1_placeOf_6 : decode cX1_placeOf 6 = .ok (.aload_n 0, 1) := dk_42 (dk_at dksX1_placeOf_0 6 rfl rfl)
theorem dX1_placeOf_7 : decode cX1_placeOf 7 = .ok (.getfield 18, 3) := dk_180 0 18 (dk_at dksX1_placeOf_0 7 rfl rfl)
theorem dX1_placeOf_10 : decode cX1_placeOf 10 = .ok (.iload_n 1, 1) := dk_27 (dk_at dksX1_placeOf_0 10 rfl rfl)
theorem dX1_placeOf_11 : decode cX1_placeOf 11 = .ok (.iload_n 2, 1) := dk_28 (dk_at dksX1_placeOf_0 11 rfl rfl)
theorem dX1_placeOf_12 : decode cX1_placeOf 12 = .ok (.invokevirtual 220, 3) := dk_182 0 220 (dk_at dksX1_placeOf_0 12 rfl rfl)
theorem dX1_placeOf_15 : decode cX1_placeOf 15 = .ok (.ireturn, 1) := dk_172 (dk_at dksX1_placeOf_0 15 rfl rfl)
abbrev cX1_driveOf : ByteArray := prog_1_method_39_code
def yX1_driveOf : MethodName := ⟨RX1, "driveOf", "(I)I"⟩
def dkwX1_driveOf_0 : List UInt8 := [42, 27, 182, 0, 94, 180, 0, 212, 172]
abbrev dktX1_driveOf_0 : List UInt8 := dkwX1_driveOf_0 ++ []
theorem dksX1_driveOf_0 : cX1_driveOf.data.toList.drop 0 = dktX1_driveOf_0 := by decide +kernel
theorem dX1_driveOf_0 : decode cX1_driveOf 0 = .ok (.aload_n 0, 1) := dk_42 (dk_at dksX1_driveOf_0 0 rfl rfl)
theorem dX1_driveOf_1 : decode cX1_driveOf 1 = .ok (.iload_n 1, 1) := dk_27 (dk_at dksX1_driveOf_0 1 rfl rfl)
theorem dX1_driveOf_2 : decode cX1_driveOf 2 = .ok (.invokevirtual 94, 3) := dk_182 0 94 (dk_at dksX1_driveOf_0 2 rfl rfl)
theorem dX1_driveOf_5 : decode cX1_driveOf 5 = .ok (.getfield 212, 3) := dk_180 0 212 (dk_at dksX1_driveOf_0 5 rfl rfl)
theorem dX1_driveOf_8 : decode cX1_driveOf 8 = .ok (.ireturn, 1) := dk_172 (dk_at dksX1_driveOf_0 8 rfl rfl)
abbrev cX1_baseOf : ByteArray := prog_1_method_40_code
def yX1_baseOf : MethodName := ⟨RX1, "baseOf", "(I)I"⟩
def dkwX1_baseOf_0 : List UInt8 := [42, 27, 182, 0, 94, 180, 0, 223, 172]
abbrev dktX1_baseOf_0 : List UInt8 := dkwX1_baseOf_0 ++ []
theorem dksX1_baseOf_0 : cX1_baseOf.data.toList.drop 0 = dktX1_baseOf_0 := by decide +kernel
theorem dX1_baseOf_0 : decode cX1_baseOf 0 = .ok (.aload_n 0, 1) := dk_42 (dk_at dksX1_baseOf_0 0 rfl rfl)
theorem dX1_baseOf_1 : decode cX1_baseOf 1 = .ok (.iload_n 1, 1) := dk_27 (dk_at dksX1_baseOf_0 1 rfl rfl)
theorem dX1_baseOf_2 : decode cX1_baseOf 2 = .ok (.invokevirtual 94, 3) := dk_182 0 94 (dk_at dksX1_baseOf_0 2 rfl rfl)
theorem dX1_baseOf_5 : decode cX1_baseOf 5 = .ok (.getfield 223, 3) := dk_180 0 223 (dk_at dksX1_baseOf_0 5 rfl rfl)
theorem dX1_baseOf_8 : decode cX1_baseOf 8 = .ok (.ireturn, 1) := dk_172 (dk_at dksX1_baseOf_0 8 rfl rfl)
abbrev cX1_isScratched : ByteArray := prog_1_method_41_code
def yX1_isScratched : MethodName := ⟨RX1, "isScratched", "(II)Z"⟩
def dkwX1_isScratched_0 : List UInt8 := [42, 27, 28, 182, 0, 102, 180, 0, 226, 172]
abbrev dktX1_isScratched_0 : List UInt8 := dkwX1_isScratched_0 ++ []
theorem dksX1_isScratched_0 : cX1_isScratched.data.toList.drop 0 = dktX1_isScratched_0 := by decide +kernel
theorem dX1_isScratched_0 : decode cX1_isScratched 0 = .ok (.aload_n 0, 1) := dk_42 (dk_at dksX1_isScratched_0 0 rfl rfl)
theorem dX1_isScratched_1 : decode cX1_isScratched 1 = .ok (.iload_n 1, 1) := dk_27 (dk_at dksX1_isScratched_0 1 rfl rfl)
theorem dX1_isScratched_2 : decode cX1_isScratched 2 = .ok (.iload_n 2, 1) := dk_28 (dk_at dksX1_isScratched_0 2 rfl rfl)
theorem dX1_isScratched_3 : decode cX1_isScratched 3 = .ok (.invokevirtual 102, 3) := dk_182 0 102 (dk_at dksX1_isScratched_0 3 rfl rfl)
theorem dX1_isScratched_6 : decode cX1_isScratched 6 = .ok (.getfield 226, 3) := dk_180 0 226 (dk_at dksX1_isScratched_0 6 rfl rfl)
theorem dX1_isScratched_9 : decode cX1_isScratched 9 = .ok (.ireturn, 1) := dk_172 (dk_at dksX1_isScratched_0 9 rfl rfl)
abbrev cX1_surface : ByteArray := prog_1_method_12_code
def yX1_surface : MethodName := ⟨RX1, "surface", "(II)LDiskPacks$Surface;"⟩
def dkwX1_surface_0 : List UInt8 := [42, 27, 182, 0, 94, 78, 28, 6, 184, 0, 63, 45, 180, 0, 98, 28, 50, 176]
abbrev dktX1_surface_0 : List UInt8 := dkwX1_surface_0 ++ []
theorem dksX1_surface_0 : cX1_surface.data.toList.drop 0 = dktX1_surface_0 := by decide +kernel
theorem dX1_surface_0 : decode cX1_surface 0 = .ok (.aload_n 0, 1) := dk_42 (dk_at dksX1_surface_0 0 rfl rfl)
theorem dX1_surface_1 : decode cX1_surface 1 = .ok (.iload_n 1, 1) := dk_27 (dk_at dksX1_surface_0 1 rfl rfl)
theorem dX1_surface_2 : decode cX1_surface 2 = .ok (.invokevirtual 94, 3) := dk_182 0 94 (dk_at dksX1_surface_0 2 rfl rfl)
theorem dX1_surface_5 : decode cX1_surface 5 = .ok (.astore_n 3, 1) := dk_78 (dk_at dksX1_surface_0 5 rfl rfl)
theorem dX1_surface_6 : decode cX1_surface 6 = .ok (.iload_n 2, 1) := dk_28 (dk_at dksX1_surface_0 6 rfl rfl)
theorem dX1_surface_7 : decode cX1_surface 7 = .ok (.iconst 3, 1) := dk_6 (dk_at dksX1_surface_0 7 rfl rfl)
theorem dX1_surface_8 : decode cX1_surface 8 = .ok (.invokestatic 63, 3) := dk_184 0 63 (dk_at dksX1_surface_0 8 rfl rfl)
theorem dX1_surface_11 : decode cX1_surface 11 = .ok (.aload_n 3, 1) := dk_45 (dk_at dksX1_surface_0 11 rfl rfl)
theorem dX1_surface_12 : decode cX1_surface 12 = .ok (.getfield 98, 3) := dk_180 0 98 (dk_at dksX1_surface_0 12 rfl rfl)
theorem dX1_surface_15 : decode cX1_surface 15 = .ok (.iload_n 2, 1) := dk_28 (dk_at dksX1_surface_0 15 rfl rfl)
theorem dX1_surface_16 : decode cX1_surface 16 = .ok (.aaload, 1) := dk_50 (dk_at dksX1_surface_0 16 rfl rfl)
theorem dX1_surface_17 : decode cX1_surface 17 = .ok (.areturn, 1) := dk_176 (dk_at dksX1_surface_0 17 rfl rfl)
abbrev cX1_valueOf : ByteArray := prog_1_method_42_code
def yX1_valueOf : MethodName := ⟨RX1, "valueOf", "(III)I"⟩
def dkwX1_valueOf_0 : List UInt8 := [42, 27, 28, 29, 182, 0, 229, 180, 0, 233, 29, 46, 172]
abbrev dktX1_valueOf_0 : List UInt8 := dkwX1_valueOf_0 ++ []
theorem dksX1_valueOf_0 : cX1_valueOf.data.toList.drop 0 = dktX1_valueOf_0 := by decide +kernel
theorem dX1_valueOf_0 : decode cX1_valueOf 0 = .ok (.aload_n 0, 1) := dk_42 (dk_at dksX1_valueOf_0 0 rfl rfl)
theorem dX1_valueOf_1 : decode cX1_valueOf 1 = .ok (.iload_n 1, 1) := dk_27 (dk_at dksX1_valueOf_0 1 rfl rfl)
theorem dX1_valueOf_2 : decode cX1_valueOf 2 = .ok (.iload_n 2, 1) := dk_28 (dk_at dksX1_valueOf_0 2 rfl rfl)
theorem dX1_valueOf_3 : decode cX1_valueOf 3 = .ok (.iload_n 3, 1) := dk_29 (dk_at dksX1_valueOf_0 3 rfl rfl)
theorem dX1_valueOf_4 : decode cX1_valueOf 4 = .ok (.invokevirtual 229, 3) := dk_182 0 229 (dk_at dksX1_valueOf_0 4 rfl rfl)
theorem dX1_valueOf_7 : decode cX1_valueOf 7 = .ok (.getfield 233, 3) := dk_180 0 233 (dk_at dksX1_valueOf_0 7 rfl rfl)
theorem dX1_valueOf_10 : decode cX1_valueOf 10 = .ok (.iload_n 3, 1) := dk_29 (dk_at dksX1_valueOf_0 10 rfl rfl)
theorem dX1_valueOf_11 : decode cX1_valueOf 11 = .ok (.iaload, 1) := dk_46 (dk_at dksX1_valueOf_0 11 rfl rfl)
theorem dX1_valueOf_12 : decode cX1_valueOf 12 = .ok (.ireturn, 1) := dk_172 (dk_at dksX1_valueOf_0 12 rfl rfl)
abbrev cX1_track : ByteArray := prog_1_method_13_code
def yX1_track : MethodName := ⟨RX1, "track", "(III)LDiskPacks$Surface;"⟩
def dkwX1_track_0 : List UInt8 := [42, 27, 28, 182, 0, 102, 58, 4, 29, 16, 40, 184, 0, 63, 25, 4, 176]
abbrev dktX1_track_0 : List UInt8 := dkwX1_track_0 ++ []
theorem dksX1_track_0 : cX1_track.data.toList.drop 0 = dktX1_track_0 := by decide +kernel
theorem dX1_track_0 : decode cX1_track 0 = .ok (.aload_n 0, 1) := dk_42 (dk_at dksX1_track_0 0 rfl rfl)
theorem dX1_track_1 : decode cX1_track 1 = .ok (.iload_n 1, 1) := dk_27 (dk_at dksX1_track_0 1 rfl rfl)
theorem dX1_track_2 : decode cX1_track 2 = .ok (.iload_n 2, 1) := dk_28 (dk_at dksX1_track_0 2 rfl rfl)
theorem dX1_track_3 : decode cX1_track 3 = .ok (.invokevirtual 102, 3) := dk_182 0 102 (dk_at dksX1_track_0 3 rfl rfl)
theorem dX1_track_6 : decode cX1_track 6 = .ok (.astore 4, 2) := dk_58 4 (dk_at dksX1_track_0 6 rfl rfl)
theorem dX1_track_8 : decode cX1_track 8 = .ok (.iload_n 3, 1) := dk_29 (dk_at dksX1_track_0 8 rfl rfl)
theorem dX1_track_9 : decode cX1_track 9 = .ok (.bipush 40, 2) := dk_16 40 (dk_at dksX1_track_0 9 rfl rfl)
theorem dX1_track_11 : decode cX1_track 11 = .ok (.invokestatic 63, 3) := dk_184 0 63 (dk_at dksX1_track_0 11 rfl rfl)
theorem dX1_track_14 : decode cX1_track 14 = .ok (.aload 4, 2) := dk_25 4 (dk_at dksX1_track_0 14 rfl rfl)
theorem dX1_track_16 : decode cX1_track 16 = .ok (.areturn, 1) := dk_176 (dk_at dksX1_track_0 16 rfl rfl)
abbrev cX1_positionOf : ByteArray := prog_1_method_43_code
def yX1_positionOf : MethodName := ⟨RX1, "positionOf", "(III)I"⟩
def dkwX1_positionOf_1 : List UInt8 := [184, 0, 119, 25, 4, 180, 0, 195, 29, 46, 172]
abbrev dktX1_positionOf_1 : List UInt8 := dkwX1_positionOf_1 ++ []
def dkwX1_positionOf_0 : List UInt8 := [42, 27, 28, 29, 182, 0, 229, 58, 4, 25, 4, 29, 182, 0, 236, 154, 0, 7, 4, 167, 0, 4, 3]
abbrev dktX1_positionOf_0 : List UInt8 := dkwX1_positionOf_0 ++ dktX1_positionOf_1
theorem dksX1_positionOf_0 : cX1_positionOf.data.toList.drop 0 = dktX1_positionOf_0 := by decide +kernel
theorem dksX1_positionOf_1 : cX1_positionOf.data.toList.drop 23 = dktX1_positionOf_1 := dk_seg dksX1_positionOf_0 23 rfl rfl
theorem dX1_positionOf_0 : decode cX1_positionOf 0 = .ok (.aload_n 0, 1) := dk_42 (dk_at dksX1_positionOf_0 0 rfl rfl)
theorem dX1_positionOf_1 : decode cX1_positionOf 1 = .ok (.iload_n 1, 1) := dk_27 (dk_at dksX1_positionOf_0 1 rfl rfl)
theorem dX1_positionOf_2 : decode cX1_positionOf 2 = .ok (.iload_n 2, 1) := dk_28 (dk_at dksX1_positionOf_0 2 rfl rfl)
theorem dX1_positionOf_3 : decode cX1_positionOf 3 = .ok (.iload_n 3, 1) := dk_29 (dk_at dksX1_positionOf_0 3 rfl rfl)
theorem dX1_positionOf_4 : decode cX1_positionOf 4 = .ok (.invokevirtual 229, 3) := dk_182 0 229 (dk_at dksX1_positionOf_0 4 rfl rfl)
theorem dX1_positionOf_7 : decode cX1_positionOf 7 = .ok (.astore 4, 2) := dk_58 4 (dk_at dksX1_positionOf_0 7 rfl rfl)
theorem dX1_positionOf_9 : decode cX1_positionOf 9 = .ok (.aload 4, 2) := dk_25 4 (dk_at dksX1_positionOf_0 9 rfl rfl)
theorem dX1_positionOf_11 : decode cX1_positionOf 11 = .ok (.iload_n 3, 1) := dk_29 (dk_at dksX1_positionOf_0 11 rfl rfl)
theorem dX1_positionOf_12 : decode cX1_positionOf 12 = .ok (.invokevirtual 236, 3) := dk_182 0 236 (dk_at dksX1_positionOf_0 12 rfl rfl)
theorem dX1_positionOf_15 : decode cX1_positionOf 15 = .ok (.ifCond .ne 7, 3) := dk_154 0 7 (dk_at dksX1_positionOf_0 15 rfl rfl)
theorem dX1_positionOf_18 : decode cX1_positionOf 18 = .ok (.iconst 1, 1) := dk_4 (dk_at dksX1_positionOf_0 18 rfl rfl)
theorem dX1_positionOf_19 : decode cX1_positionOf 19 = .ok (.goto 4, 3) := dk_167 0 4 (dk_at dksX1_positionOf_0 19 rfl rfl)
theorem dX1_positionOf_22 : decode cX1_positionOf 22 = .ok (.iconst 0, 1) := dk_3 (dk_at dksX1_positionOf_0 22 rfl rfl)
theorem dX1_positionOf_23 : decode cX1_positionOf 23 = .ok (.invokestatic 119, 3) := dk_184 0 119 (dk_at dksX1_positionOf_1 0 rfl rfl)
theorem dX1_positionOf_26 : decode cX1_positionOf 26 = .ok (.aload 4, 2) := dk_25 4 (dk_at dksX1_positionOf_1 3 rfl rfl)
theorem dX1_positionOf_28 : decode cX1_positionOf 28 = .ok (.getfield 195, 3) := dk_180 0 195 (dk_at dksX1_positionOf_1 5 rfl rfl)
theorem dX1_positionOf_31 : decode cX1_positionOf 31 = .ok (.iload_n 3, 1) := dk_29 (dk_at dksX1_positionOf_1 8 rfl rfl)
theorem dX1_positionOf_32 : decode cX1_positionOf 32 = .ok (.iaload, 1) := dk_46 (dk_at dksX1_positionOf_1 9 rfl rfl)
theorem dX1_positionOf_33 : decode cX1_positionOf 33 = .ok (.ireturn, 1) := dk_172 (dk_at dksX1_positionOf_1 10 rfl rfl)
abbrev cX1_strengthOf : ByteArray := prog_1_method_44_code
def yX1_strengthOf : MethodName := ⟨RX1, "strengthOf", "(III)F"⟩
def dkwX1_strengthOf_0 : List UInt8 := [42, 27, 28, 29, 182, 0, 229, 180, 0, 239, 29, 48, 174]
abbrev dktX1_strengthOf_0 : List UInt8 := dkwX1_strengthOf_0 ++ []
theorem dksX1_strengthOf_0 : cX1_strengthOf.data.toList.drop 0 = dktX1_strengthOf_0 := by decide +kernel
theorem dX1_strengthOf_0 : decode cX1_strengthOf 0 = .ok (.aload_n 0, 1) := dk_42 (dk_at dksX1_strengthOf_0 0 rfl rfl)
theorem dX1_strengthOf_1 : decode cX1_strengthOf 1 = .ok (.iload_n 1, 1) := dk_27 (dk_at dksX1_strengthOf_0 1 rfl rfl)
theorem dX1_strengthOf_2 : decode cX1_strengthOf 2 = .ok (.iload_n 2, 1) := dk_28 (dk_at dksX1_strengthOf_0 2 rfl rfl)
theorem dX1_strengthOf_3 : decode cX1_strengthOf 3 = .ok (.iload_n 3, 1) := dk_29 (dk_at dksX1_strengthOf_0 3 rfl rfl)
theorem dX1_strengthOf_4 : decode cX1_strengthOf 4 = .ok (.invokevirtual 229, 3) := dk_182 0 229 (dk_at dksX1_strengthOf_0 4 rfl rfl)
theorem dX1_strengthOf_7 : decode cX1_strengthOf 7 = .ok (.getfield 239, 3) := dk_180 0 239 (dk_at dksX1_strengthOf_0 7 rfl rfl)
theorem dX1_strengthOf_10 : decode cX1_strengthOf 10 = .ok (.iload_n 3, 1) := dk_29 (dk_at dksX1_strengthOf_0 10 rfl rfl)
theorem dX1_strengthOf_11 : decode cX1_strengthOf 11 = .ok (.faload, 1) := dk_48 (dk_at dksX1_strengthOf_0 11 rfl rfl)
theorem dX1_strengthOf_12 : decode cX1_strengthOf 12 = .ok (.freturn, 1) := dk_174 (dk_at dksX1_strengthOf_0 12 rfl rfl)
abbrev cX1_writtenOn : ByteArray := prog_1_method_45_code
def yX1_writtenOn : MethodName := ⟨RX1, "writtenOn", "(I)I"⟩
def dkwX1_writtenOn_2 : List UInt8 := [96, 62, 132, 5, 1, 167, 255, 223, 132, 4, 1, 167, 255, 208, 29, 172]
abbrev dktX1_writtenOn_2 : List UInt8 := dkwX1_writtenOn_2 ++ []
def dkwX1_writtenOn_1 : List UInt8 := [162, 0, 32, 29, 44, 180, 0, 98, 21, 4, 50, 21, 5, 182, 0, 236, 153, 0, 7, 3, 167, 0, 4, 4]
abbrev dktX1_writtenOn_1 : List UInt8 := dkwX1_writtenOn_1 ++ dktX1_writtenOn_2
def dkwX1_writtenOn_0 : List UInt8 := [42, 27, 182, 0, 94, 77, 3, 62, 3, 54, 4, 21, 4, 6, 162, 0, 48, 3, 54, 5, 21, 5, 16, 40]
abbrev dktX1_writtenOn_0 : List UInt8 := dkwX1_writtenOn_0 ++ dktX1_writtenOn_1
theorem dksX1_writtenOn_0 : cX1_writtenOn.data.toList.drop 0 = dktX1_writtenOn_0 := by decide +kernel
theorem dksX1_writtenOn_1 : cX1_writtenOn.data.toList.drop 24 = dktX1_writtenOn_1 := dk_seg dksX1_writtenOn_0 24 rfl rfl
theorem dksX1_writtenOn_2 : cX1_writtenOn.data.toList.drop 48 = dktX1_writtenOn_2 := dk_seg dksX1_writtenOn_1 24 rfl rfl
theorem dX1_writtenOn_0 : decode cX1_writtenOn 0 = .ok (.aload_n 0, 1) := dk_42 (dk_at dksX1_writtenOn_0 0 rfl rfl)
theorem dX1_writtenOn_1 : decode cX1_writtenOn 1 = .ok (.iload_n 1, 1) := dk_27 (dk_at dksX1_writtenOn_0 1 rfl rfl)
theorem dX1_writtenOn_2 : decode cX1_writtenOn 2 = .ok (.invokevirtual 94, 3) := dk_182 0 94 (dk_at dksX1_writtenOn_0 2 rfl rfl)
theorem dX1_writtenOn_5 : decode cX1_writtenOn 5 = .ok (.astore_n 2, 1) := dk_77 (dk_at dksX1_writtenOn_0 5 rfl rfl)
theorem dX1_writtenOn_6 : decode cX1_writtenOn 6 = .ok (.iconst 0, 1) := dk_3 (dk_at dksX1_writtenOn_0 6 rfl rfl)
theorem dX1_writtenOn_7 : decode cX1_writtenOn 7 = .ok (.istore_n 3, 1) := dk_62 (dk_at dksX1_writtenOn_0 7 rfl rfl)
theorem dX1_writtenOn_8 : decode cX1_writtenOn 8 = .ok (.iconst 0, 1) := dk_3 (dk_at dksX1_writtenOn_0 8 rfl rfl)
theorem dX1_writtenOn_9 : decode cX1_writtenOn 9 = .ok (.istore 4, 2) := dk_54 4 (dk_at dksX1_writtenOn_0 9 rfl rfl)
theorem dX1_writtenOn_11 : decode cX1_writtenOn 11 = .ok (.iload 4, 2) := dk_21 4 (dk_at dksX1_writtenOn_0 11 rfl rfl)
theorem dX1_writtenOn_13 : decode cX1_writtenOn 13 = .ok (.iconst 3, 1) := dk_6 (dk_at dksX1_writtenOn_0 13 rfl rfl)
theorem dX1_writtenOn_14 : decode cX1_writtenOn 14 = .ok (.if_icmp .ge 48, 3) := dk_162 0 48 (dk_at dksX1_writtenOn_0 14 rfl rfl)
theorem dX1_writtenOn_17 : decode cX1_writtenOn 17 = .ok (.iconst 0, 1) := dk_3 (dk_at dksX1_writtenOn_0 17 rfl rfl)
theorem dX1_writtenOn_18 : decode cX1_writtenOn 18 = .ok (.istore 5, 2) := dk_54 5 (dk_at dksX1_writtenOn_0 18 rfl rfl)
theorem dX1_writtenOn_20 : decode cX1_writtenOn 20 = .ok (.iload 5, 2) := dk_21 5 (dk_at dksX1_writtenOn_0 20 rfl rfl)
theorem dX1_writtenOn_22 : decode cX1_writtenOn 22 = .ok (.bipush 40, 2) := dk_16 40 (dk_at dksX1_writtenOn_0 22 rfl rfl)
theorem dX1_writtenOn_24 : decode cX1_writtenOn 24 = .ok (.if_icmp .ge 32, 3) := dk_162 0 32 (dk_at dksX1_writtenOn_1 0 rfl rfl)
theorem dX1_writtenOn_27 : decode cX1_writtenOn 27 = .ok (.iload_n 3, 1) := dk_29 (dk_at dksX1_writtenOn_1 3 rfl rfl)
theorem dX1_writtenOn_28 : decode cX1_writtenOn 28 = .ok (.aload_n 2, 1) := dk_44 (dk_at dksX1_writtenOn_1 4 rfl rfl)
theorem dX1_writtenOn_29 : decode cX1_writtenOn 29 = .ok (.getfield 98, 3) := dk_180 0 98 (dk_at dksX1_writtenOn_1 5 rfl rfl)
theorem dX1_writtenOn_32 : decode cX1_writtenOn 32 = .ok (.iload 4, 2) := dk_21 4 (dk_at dksX1_writtenOn_1 8 rfl rfl)
theorem dX1_writtenOn_34 : decode cX1_writtenOn 34 = .ok (.aaload, 1) := dk_50 (dk_at dksX1_writtenOn_1 10 rfl rfl)
theorem dX1_writtenOn_35 : decode cX1_writtenOn 35 = .ok (.iload 5, 2) := dk_21 5 (dk_at dksX1_writtenOn_1 11 rfl rfl)
theorem dX1_writtenOn_37 : decode cX1_writtenOn 37 = .ok (.invokevirtual 236, 3) := dk_182 0 236 (dk_at dksX1_writtenOn_1 13 rfl rfl)
theorem dX1_writtenOn_40 : decode cX1_writtenOn 40 = .ok (.ifCond .eq 7, 3) := dk_153 0 7 (dk_at dksX1_writtenOn_1 16 rfl rfl)
theorem dX1_writtenOn_43 : decode cX1_writtenOn 43 = .ok (.iconst 0, 1) := dk_3 (dk_at dksX1_writtenOn_1 19 rfl rfl)
theorem dX1_writtenOn_44 : decode cX1_writtenOn 44 = .ok (.goto 4, 3) := dk_167 0 4 (dk_at dksX1_writtenOn_1 20 rfl rfl)
theorem dX1_writtenOn_47 : decode cX1_writtenOn 47 = .ok (.iconst 1, 1) := dk_4 (dk_at dksX1_writtenOn_1 23 rfl rfl)
theorem dX1_writtenOn_48 : decode cX1_writtenOn 48 = .ok (.iadd, 1) := dk_96 (dk_at dksX1_writtenOn_2 0 rfl rfl)
theorem dX1_writtenOn_49 : decode cX1_writtenOn 49 = .ok (.istore_n 3, 1) := dk_62 (dk_at dksX1_writtenOn_2 1 rfl rfl)
theorem dX1_writtenOn_50 : decode cX1_writtenOn 50 = .ok (.iinc 5 1, 3) := dk_132 5 1 (dk_at dksX1_writtenOn_2 2 rfl rfl)
theorem dX1_writtenOn_53 : decode cX1_writtenOn 53 = .ok (.goto (-33), 3) := dk_167 255 223 (dk_at dksX1_writtenOn_2 5 rfl rfl)
theorem dX1_writtenOn_56 : decode cX1_writtenOn 56 = .ok (.iinc 4 1, 3) := dk_132 4 1 (dk_at dksX1_writtenOn_2 8 rfl rfl)
theorem dX1_writtenOn_59 : decode cX1_writtenOn 59 = .ok (.goto (-48), 3) := dk_167 255 208 (dk_at dksX1_writtenOn_2 11 rfl rfl)
theorem dX1_writtenOn_62 : decode cX1_writtenOn 62 = .ok (.iload_n 3, 1) := dk_29 (dk_at dksX1_writtenOn_2 14 rfl rfl)
theorem dX1_writtenOn_63 : decode cX1_writtenOn 63 = .ok (.ireturn, 1) := dk_172 (dk_at dksX1_writtenOn_2 15 rfl rfl)
abbrev cX1_signal : ByteArray := prog_1_method_46_code
def yX1_signal : MethodName := ⟨RX1, "signal", "(III)F"⟩
def dkwX1_signal_1 : List UInt8 := [184, 0, 119, 42, 180, 0, 18, 27, 28, 29, 182, 0, 243, 174]
abbrev dktX1_signal_1 : List UInt8 := dkwX1_signal_1 ++ []
def dkwX1_signal_0 : List UInt8 := [42, 27, 28, 182, 0, 113, 29, 16, 216, 16, 40, 184, 0, 123, 42, 180, 0, 18, 27, 182, 0, 116]
abbrev dktX1_signal_0 : List UInt8 := dkwX1_signal_0 ++ dktX1_signal_1
theorem dksX1_signal_0 : cX1_signal.data.toList.drop 0 = dktX1_signal_0 := by decide +kernel
theorem dksX1_signal_1 : cX1_signal.data.toList.drop 22 = dktX1_signal_1 := dk_seg dksX1_signal_0 22 rfl rfl
theorem dX1_signal_0 : decode cX1_signal 0 = .ok (.aload_n 0, 1) := dk_42 (dk_at dksX1_signal_0 0 rfl rfl)
theorem dX1_signal_1 : decode cX1_signal 1 = .ok (.iload_n 1, 1) := dk_27 (dk_at dksX1_signal_0 1 rfl rfl)
theorem dX1_signal_2 : decode cX1_signal 2 = .ok (.iload_n 2, 1) := dk_28 (dk_at dksX1_signal_0 2 rfl rfl)
theorem dX1_signal_3 : decode cX1_signal 3 = .ok (.invokevirtual 113, 3) := dk_182 0 113 (dk_at dksX1_signal_0 3 rfl rfl)
theorem dX1_signal_6 : decode cX1_signal 6 = .ok (.iload_n 3, 1) := dk_29 (dk_at dksX1_signal_0 6 rfl rfl)
theorem dX1_signal_7 : decode cX1_signal 7 = .ok (.bipush (-40), 2) := dk_16 216 (dk_at dksX1_signal_0 7 rfl rfl)
theorem dX1_signal_9 : decode cX1_signal 9 = .ok (.bipush 40, 2) := dk_16 40 (dk_at dksX1_signal_0 9 rfl rfl)
theorem dX1_signal_11 : decode cX1_signal 11 = .ok (.invokestatic 123, 3) := dk_184 0 123 (dk_at dksX1_signal_0 11 rfl rfl)
theorem dX1_signal_14 : decode cX1_signal 14 = .ok (.aload_n 0, 1) := dk_42 (dk_at dksX1_signal_0 14 rfl rfl)
theorem dX1_signal_15 : decode cX1_signal 15 = .ok (.getfield 18, 3) := dk_180 0 18 (dk_at dksX1_signal_0 15 rfl rfl)
theorem dX1_signal_18 : decode cX1_signal 18 = .ok (.iload_n 1, 1) := dk_27 (dk_at dksX1_signal_0 18 rfl rfl)
theorem dX1_signal_19 : decode cX1_signal 19 = .ok (.invokevirtual 116, 3) := dk_182 0 116 (dk_at dksX1_signal_0 19 rfl rfl)
theorem dX1_signal_22 : decode cX1_signal 22 = .ok (.invokestatic 119, 3) := dk_184 0 119 (dk_at dksX1_signal_1 0 rfl rfl)
theorem dX1_signal_25 : decode cX1_signal 25 = .ok (.aload_n 0, 1) := dk_42 (dk_at dksX1_signal_1 3 rfl rfl)
theorem dX1_signal_26 : decode cX1_signal 26 = .ok (.getfield 18, 3) := dk_180 0 18 (dk_at dksX1_signal_1 4 rfl rfl)
theorem dX1_signal_29 : decode cX1_signal 29 = .ok (.iload_n 1, 1) := dk_27 (dk_at dksX1_signal_1 7 rfl rfl)
theorem dX1_signal_30 : decode cX1_signal 30 = .ok (.iload_n 2, 1) := dk_28 (dk_at dksX1_signal_1 8 rfl rfl)
theorem dX1_signal_31 : decode cX1_signal 31 = .ok (.iload_n 3, 1) := dk_29 (dk_at dksX1_signal_1 9 rfl rfl)
theorem dX1_signal_32 : decode cX1_signal 32 = .ok (.invokevirtual 243, 3) := dk_182 0 243 (dk_at dksX1_signal_1 10 rfl rfl)
theorem dX1_signal_35 : decode cX1_signal 35 = .ok (.freturn, 1) := dk_174 (dk_at dksX1_signal_1 13 rfl rfl)
abbrev cX1_signalBits : ByteArray := prog_1_method_47_code
def yX1_signalBits : MethodName := ⟨RX1, "signalBits", "(III)I"⟩
def dkwX1_signalBits_1 : List UInt8 := [184, 0, 119, 42, 180, 0, 18, 27, 28, 29, 182, 0, 243, 184, 0, 247, 172]
abbrev dktX1_signalBits_1 : List UInt8 := dkwX1_signalBits_1 ++ []
def dkwX1_signalBits_0 : List UInt8 := [42, 27, 28, 182, 0, 113, 29, 16, 216, 16, 40, 184, 0, 123, 42, 180, 0, 18, 27, 182, 0, 116]
abbrev dktX1_signalBits_0 : List UInt8 := dkwX1_signalBits_0 ++ dktX1_signalBits_1
theorem dksX1_signalBits_0 : cX1_signalBits.data.toList.drop 0 = dktX1_signalBits_0 := by decide +kernel
theorem dksX1_signalBits_1 : cX1_signalBits.data.toList.drop 22 = dktX1_signalBits_1 := dk_seg dksX1_signalBits_0 22 rfl rfl
theorem dX1_signalBits_0 : decode cX1_signalBits 0 = .ok (.aload_n 0, 1) := dk_42 (dk_at dksX1_signalBits_0 0 rfl rfl)
theorem dX1_signalBits_1 : decode cX1_signalBits 1 = .ok (.iload_n 1, 1) := dk_27 (dk_at dksX1_signalBits_0 1 rfl rfl)
theorem dX1_signalBits_2 : decode cX1_signalBits 2 = .ok (.iload_n 2, 1) := dk_28 (dk_at dksX1_signalBits_0 2 rfl rfl)
theorem dX1_signalBits_3 : decode cX1_signalBits 3 = .ok (.invokevirtual 113, 3) := dk_182 0 113 (dk_at dksX1_signalBits_0 3 rfl rfl)
theorem dX1_signalBits_6 : decode cX1_signalBits 6 = .ok (.iload_n 3, 1) := dk_29 (dk_at dksX1_signalBits_0 6 rfl rfl)
theorem dX1_signalBits_7 : decode cX1_signalBits 7 = .ok (.bipush (-40), 2) := dk_16 216 (dk_at dksX1_signalBits_0 7 rfl rfl)
theorem dX1_signalBits_9 : decode cX1_signalBits 9 = .ok (.bipush 40, 2) := dk_16 40 (dk_at dksX1_signalBits_0 9 rfl rfl)
theorem dX1_signalBits_11 : decode cX1_signalBits 11 = .ok (.invokestatic 123, 3) := dk_184 0 123 (dk_at dksX1_signalBits_0 11 rfl rfl)
theorem dX1_signalBits_14 : decode cX1_signalBits 14 = .ok (.aload_n 0, 1) := dk_42 (dk_at dksX1_signalBits_0 14 rfl rfl)
theorem dX1_signalBits_15 : decode cX1_signalBits 15 = .ok (.getfield 18, 3) := dk_180 0 18 (dk_at dksX1_signalBits_0 15 rfl rfl)
theorem dX1_signalBits_18 : decode cX1_signalBits 18 = .ok (.iload_n 1, 1) := dk_27 (dk_at dksX1_signalBits_0 18 rfl rfl)
theorem dX1_signalBits_19 : decode cX1_signalBits 19 = .ok (.invokevirtual 116, 3) := dk_182 0 116 (dk_at dksX1_signalBits_0 19 rfl rfl)
theorem dX1_signalBits_22 : decode cX1_signalBits 22 = .ok (.invokestatic 119, 3) := dk_184 0 119 (dk_at dksX1_signalBits_1 0 rfl rfl)
theorem dX1_signalBits_25 : decode cX1_signalBits 25 = .ok (.aload_n 0, 1) := dk_42 (dk_at dksX1_signalBits_1 3 rfl rfl)
theorem dX1_signalBits_26 : decode cX1_signalBits 26 = .ok (.getfield 18, 3) := dk_180 0 18 (dk_at dksX1_signalBits_1 4 rfl rfl)
theorem dX1_signalBits_29 : decode cX1_signalBits 29 = .ok (.iload_n 1, 1) := dk_27 (dk_at dksX1_signalBits_1 7 rfl rfl)
theorem dX1_signalBits_30 : decode cX1_signalBits 30 = .ok (.iload_n 2, 1) := dk_28 (dk_at dksX1_signalBits_1 8 rfl rfl)
theorem dX1_signalBits_31 : decode cX1_signalBits 31 = .ok (.iload_n 3, 1) := dk_29 (dk_at dksX1_signalBits_1 9 rfl rfl)
theorem dX1_signalBits_32 : decode cX1_signalBits 32 = .ok (.invokevirtual 243, 3) := dk_182 0 243 (dk_at dksX1_signalBits_1 10 rfl rfl)
theorem dX1_signalBits_35 : decode cX1_signalBits 35 = .ok (.invokestatic 247, 3) := dk_184 0 247 (dk_at dksX1_signalBits_1 13 rfl rfl)
theorem dX1_signalBits_38 : decode cX1_signalBits 38 = .ok (.ireturn, 1) := dk_172 (dk_at dksX1_signalBits_1 16 rfl rfl)
abbrev cX1_gap : ByteArray := prog_1_method_48_code
def yX1_gap : MethodName := ⟨RX1, "gap", "(II)I"⟩
def dkwX1_gap_2 : List UInt8 := [21, 4, 46, 42, 180, 0, 18, 27, 28, 182, 0, 220, 100, 172]
abbrev dktX1_gap_2 : List UInt8 := dkwX1_gap_2 ++ []
def dkwX1_gap_1 : List UInt8 := [54, 4, 45, 21, 4, 182, 0, 236, 154, 0, 7, 4, 167, 0, 4, 3, 184, 0, 119, 45, 180, 0, 195]
abbrev dktX1_gap_1 : List UInt8 := dkwX1_gap_1 ++ dktX1_gap_2
def dkwX1_gap_0 : List UInt8 := [42, 27, 28, 182, 0, 200, 42, 180, 0, 18, 27, 28, 182, 0, 194, 78, 42, 27, 182, 0, 71, 180, 0, 177]
abbrev dktX1_gap_0 : List UInt8 := dkwX1_gap_0 ++ dktX1_gap_1
theorem dksX1_gap_0 : cX1_gap.data.toList.drop 0 = dktX1_gap_0 := by decide +kernel
theorem dksX1_gap_1 : cX1_gap.data.toList.drop 24 = dktX1_gap_1 := dk_seg dksX1_gap_0 24 rfl rfl
theorem dksX1_gap_2 : cX1_gap.data.toList.drop 47 = dktX1_gap_2 := dk_seg dksX1_gap_1 23 rfl rfl
theorem dX1_gap_0 : decode cX1_gap 0 = .ok (.aload_n 0, 1) := dk_42 (dk_at dksX1_gap_0 0 rfl rfl)
theorem dX1_gap_1 : decode cX1_gap 1 = .ok (.iload_n 1, 1) := dk_27 (dk_at dksX1_gap_0 1 rfl rfl)
theorem dX1_gap_2 : decode cX1_gap 2 = .ok (.iload_n 2, 1) := dk_28 (dk_at dksX1_gap_0 2 rfl rfl)
theorem dX1_gap_3 : decode cX1_gap 3 = .ok (.invokevirtual 200, 3) := dk_182 0 200 (dk_at dksX1_gap_0 3 rfl rfl)
theorem dX1_gap_6 : decode cX1_gap 6 = .ok (.aload_n 0, 1) := dk_42 (dk_at dksX1_gap_0 6 rfl rfl)
theorem dX1_gap_7 : decode cX1_gap 7 = .ok (.getfield 18, 3) := dk_180 0 18 (dk_at dksX1_gap_0 7 rfl rfl)
theorem dX1_gap_10 : decode cX1_gap 10 = .ok (.iload_n 1, 1) := dk_27 (dk_at dksX1_gap_0 10 rfl rfl)
theorem dX1_gap_11 : decode cX1_gap 11 = .ok (.iload_n 2, 1) := dk_28 (dk_at dksX1_gap_0 11 rfl rfl)
theorem dX1_gap_12 : decode cX1_gap 12 = .ok (.invokevirtual 194, 3) := dk_182 0 194 (dk_at dksX1_gap_0 12 rfl rfl)
theorem dX1_gap_15 : decode cX1_gap 15 = .ok (.astore_n 3, 1) := dk_78 (dk_at dksX1_gap_0 15 rfl rfl)
theorem dX1_gap_16 : decode cX1_gap 16 = .ok (.aload_n 0, 1) := dk_42 (dk_at dksX1_gap_0 16 rfl rfl)
theorem dX1_gap_17 : decode cX1_gap 17 = .ok (.iload_n 1, 1) := dk_27 (dk_at dksX1_gap_0 17 rfl rfl)
theorem dX1_gap_18 : decode cX1_gap 18 = .ok (.invokevirtual 71, 3) := dk_182 0 71 (dk_at dksX1_gap_0 18 rfl rfl)
theorem dX1_gap_21 : decode cX1_gap 21 = .ok (.getfield 177, 3) := dk_180 0 177 (dk_at dksX1_gap_0 21 rfl rfl)
theorem dX1_gap_24 : decode cX1_gap 24 = .ok (.istore 4, 2) := dk_54 4 (dk_at dksX1_gap_1 0 rfl rfl)
theorem dX1_gap_26 : decode cX1_gap 26 = .ok (.aload_n 3, 1) := dk_45 (dk_at dksX1_gap_1 2 rfl rfl)
theorem dX1_gap_27 : decode cX1_gap 27 = .ok (.iload 4, 2) := dk_21 4 (dk_at dksX1_gap_1 3 rfl rfl)
theorem dX1_gap_29 : decode cX1_gap 29 = .ok (.invokevirtual 236, 3) := dk_182 0 236 (dk_at dksX1_gap_1 5 rfl rfl)
theorem dX1_gap_32 : decode cX1_gap 32 = .ok (.ifCond .ne 7, 3) := dk_154 0 7 (dk_at dksX1_gap_1 8 rfl rfl)
theorem dX1_gap_35 : decode cX1_gap 35 = .ok (.iconst 1, 1) := dk_4 (dk_at dksX1_gap_1 11 rfl rfl)
theorem dX1_gap_36 : decode cX1_gap 36 = .ok (.goto 4, 3) := dk_167 0 4 (dk_at dksX1_gap_1 12 rfl rfl)
theorem dX1_gap_39 : decode cX1_gap 39 = .ok (.iconst 0, 1) := dk_3 (dk_at dksX1_gap_1 15 rfl rfl)
theorem dX1_gap_40 : decode cX1_gap 40 = .ok (.invokestatic 119, 3) := dk_184 0 119 (dk_at dksX1_gap_1 16 rfl rfl)
theorem dX1_gap_43 : decode cX1_gap 43 = .ok (.aload_n 3, 1) := dk_45 (dk_at dksX1_gap_1 19 rfl rfl)
theorem dX1_gap_44 : decode cX1_gap 44 = .ok (.getfield 195, 3) := dk_180 0 195 (dk_at dksX1_gap_1 20 rfl rfl)
theorem dX1_gap_47 : decode cX1_gap 47 = .ok (.iload 4, 2) := dk_21 4 (dk_at dksX1_gap_2 0 rfl rfl)
theorem dX1_gap_49 : decode cX1_gap 49 = .ok (.iaload, 1) := dk_46 (dk_at dksX1_gap_2 2 rfl rfl)
theorem dX1_gap_50 : decode cX1_gap 50 = .ok (.aload_n 0, 1) := dk_42 (dk_at dksX1_gap_2 3 rfl rfl)
theorem dX1_gap_51 : decode cX1_gap 51 = .ok (.getfield 18, 3) := dk_180 0 18 (dk_at dksX1_gap_2 4 rfl rfl)
theorem dX1_gap_54 : decode cX1_gap 54 = .ok (.iload_n 1, 1) := dk_27 (dk_at dksX1_gap_2 7 rfl rfl)
theorem dX1_gap_55 : decode cX1_gap 55 = .ok (.iload_n 2, 1) := dk_28 (dk_at dksX1_gap_2 8 rfl rfl)
theorem dX1_gap_56 : decode cX1_gap 56 = .ok (.invokevirtual 220, 3) := dk_182 0 220 (dk_at dksX1_gap_2 9 rfl rfl)
theorem dX1_gap_59 : decode cX1_gap 59 = .ok (.isub, 1) := dk_100 (dk_at dksX1_gap_2 12 rfl rfl)
theorem dX1_gap_60 : decode cX1_gap 60 = .ok (.ireturn, 1) := dk_172 (dk_at dksX1_gap_2 13 rfl rfl)
abbrev cX1_retriesByTrying : ByteArray := prog_1_method_49_code
def yX1_retriesByTrying : MethodName := ⟨RX1, "retriesByTrying", "(II)I"⟩
def dkwX1_retriesByTrying_0 : List UInt8 := [42, 27, 28, 182, 0, 200, 42, 180, 0, 18, 27, 28, 182, 0, 253, 172]
abbrev dktX1_retriesByTrying_0 : List UInt8 := dkwX1_retriesByTrying_0 ++ []
theorem dksX1_retriesByTrying_0 : cX1_retriesByTrying.data.toList.drop 0 = dktX1_retriesByTrying_0 := by decide +kernel
theorem dX1_retriesByTrying_0 : decode cX1_retriesByTrying 0 = .ok (.aload_n 0, 1) := dk_42 (dk_at dksX1_retriesByTrying_0 0 rfl rfl)
theorem dX1_retriesByTrying_1 : decode cX1_retriesByTrying 1 = .ok (.iload_n 1, 1) := dk_27 (dk_at dksX1_retriesByTrying_0 1 rfl rfl)
theorem dX1_retriesByTrying_2 : decode cX1_retriesByTrying 2 = .ok (.iload_n 2, 1) := dk_28 (dk_at dksX1_retriesByTrying_0 2 rfl rfl)
theorem dX1_retriesByTrying_3 : decode cX1_retriesByTrying 3 = .ok (.invokevirtual 200, 3) := dk_182 0 200 (dk_at dksX1_retriesByTrying_0 3 rfl rfl)
theorem dX1_retriesByTrying_6 : decode cX1_retriesByTrying 6 = .ok (.aload_n 0, 1) := dk_42 (dk_at dksX1_retriesByTrying_0 6 rfl rfl)
theorem dX1_retriesByTrying_7 : decode cX1_retriesByTrying 7 = .ok (.getfield 18, 3) := dk_180 0 18 (dk_at dksX1_retriesByTrying_0 7 rfl rfl)
theorem dX1_retriesByTrying_10 : decode cX1_retriesByTrying 10 = .ok (.iload_n 1, 1) := dk_27 (dk_at dksX1_retriesByTrying_0 10 rfl rfl)
theorem dX1_retriesByTrying_11 : decode cX1_retriesByTrying 11 = .ok (.iload_n 2, 1) := dk_28 (dk_at dksX1_retriesByTrying_0 11 rfl rfl)
theorem dX1_retriesByTrying_12 : decode cX1_retriesByTrying 12 = .ok (.invokevirtual 253, 3) := dk_182 0 253 (dk_at dksX1_retriesByTrying_0 12 rfl rfl)
theorem dX1_retriesByTrying_15 : decode cX1_retriesByTrying 15 = .ok (.ireturn, 1) := dk_172 (dk_at dksX1_retriesByTrying_0 15 rfl rfl)
abbrev cX1_retriesByGap : ByteArray := prog_1_method_50_code
def yX1_retriesByGap : MethodName := ⟨RX1, "retriesByGap", "(II)I"⟩
def dkwX1_retriesByGap_0 : List UInt8 := [42, 27, 28, 182, 0, 200, 42, 180, 0, 18, 27, 28, 182, 1, 0, 172]
abbrev dktX1_retriesByGap_0 : List UInt8 := dkwX1_retriesByGap_0 ++ []
theorem dksX1_retriesByGap_0 : cX1_retriesByGap.data.toList.drop 0 = dktX1_retriesByGap_0 := by decide +kernel
theorem dX1_retriesByGap_0 : decode cX1_retriesByGap 0 = .ok (.aload_n 0, 1) := dk_42 (dk_at dksX1_retriesByGap_0 0 rfl rfl)
theorem dX1_retriesByGap_1 : decode cX1_retriesByGap 1 = .ok (.iload_n 1, 1) := dk_27 (dk_at dksX1_retriesByGap_0 1 rfl rfl)
theorem dX1_retriesByGap_2 : decode cX1_retriesByGap 2 = .ok (.iload_n 2, 1) := dk_28 (dk_at dksX1_retriesByGap_0 2 rfl rfl)
theorem dX1_retriesByGap_3 : decode cX1_retriesByGap 3 = .ok (.invokevirtual 200, 3) := dk_182 0 200 (dk_at dksX1_retriesByGap_0 3 rfl rfl)
theorem dX1_retriesByGap_6 : decode cX1_retriesByGap 6 = .ok (.aload_n 0, 1) := dk_42 (dk_at dksX1_retriesByGap_0 6 rfl rfl)
theorem dX1_retriesByGap_7 : decode cX1_retriesByGap 7 = .ok (.getfield 18, 3) := dk_180 0 18 (dk_at dksX1_retriesByGap_0 7 rfl rfl)
theorem dX1_retriesByGap_10 : decode cX1_retriesByGap 10 = .ok (.iload_n 1, 1) := dk_27 (dk_at dksX1_retriesByGap_0 10 rfl rfl)
theorem dX1_retriesByGap_11 : decode cX1_retriesByGap 11 = .ok (.iload_n 2, 1) := dk_28 (dk_at dksX1_retriesByGap_0 11 rfl rfl)
theorem dX1_retriesByGap_12 : decode cX1_retriesByGap 12 = .ok (.invokevirtual 256, 3) := dk_182 1 0 (dk_at dksX1_retriesByGap_0 12 rfl rfl)
theorem dX1_retriesByGap_15 : decode cX1_retriesByGap 15 = .ok (.ireturn, 1) := dk_172 (dk_at dksX1_retriesByGap_0 15 rfl rfl)
abbrev cX1_readableBy : ByteArray := prog_1_method_51_code
def yX1_readableBy : MethodName := ⟨RX1, "readableBy", "(III)I"⟩
def dkwX1_readableBy_2 : List UInt8 := [54, 4, 132, 5, 1, 167, 255, 218, 21, 4, 172]
abbrev dktX1_readableBy_2 : List UInt8 := dkwX1_readableBy_2 ++ []
def dkwX1_readableBy_1 : List UInt8 := [180, 0, 18, 21, 5, 28, 27, 29, 182, 1, 3, 2, 159, 0, 10, 4, 21, 5, 120, 167, 0, 4, 3, 128]
abbrev dktX1_readableBy_1 : List UInt8 := dkwX1_readableBy_1 ++ dktX1_readableBy_2
def dkwX1_readableBy_0 : List UInt8 := [42, 27, 28, 29, 182, 0, 229, 87, 3, 54, 4, 3, 54, 5, 21, 5, 7, 162, 0, 38, 21, 4, 42]
abbrev dktX1_readableBy_0 : List UInt8 := dkwX1_readableBy_0 ++ dktX1_readableBy_1
theorem dksX1_readableBy_0 : cX1_readableBy.data.toList.drop 0 = dktX1_readableBy_0 := by decide +kernel
theorem dksX1_readableBy_1 : cX1_readableBy.data.toList.drop 23 = dktX1_readableBy_1 := dk_seg dksX1_readableBy_0 23 rfl rfl
theorem dksX1_readableBy_2 : cX1_readableBy.data.toList.drop 47 = dktX1_readableBy_2 := dk_seg dksX1_readableBy_1 24 rfl rfl
theorem dX1_readableBy_0 : decode cX1_readableBy 0 = .ok (.aload_n 0, 1) := dk_42 (dk_at dksX1_readableBy_0 0 rfl rfl)
theorem dX1_readableBy_1 : decode cX1_readableBy 1 = .ok (.iload_n 1, 1) := dk_27 (dk_at dksX1_readableBy_0 1 rfl rfl)
theorem dX1_readableBy_2 : decode cX1_readableBy 2 = .ok (.iload_n 2, 1) := dk_28 (dk_at dksX1_readableBy_0 2 rfl rfl)
theorem dX1_readableBy_3 : decode cX1_readableBy 3 = .ok (.iload_n 3, 1) := dk_29 (dk_at dksX1_readableBy_0 3 rfl rfl)
theorem dX1_readableBy_4 : decode cX1_readableBy 4 = .ok (.invokevirtual 229, 3) := dk_182 0 229 (dk_at dksX1_readableBy_0 4 rfl rfl)
theorem dX1_readableBy_7 : decode cX1_readableBy 7 = .ok (.pop, 1) := dk_87 (dk_at dksX1_readableBy_0 7 rfl rfl)
theorem dX1_readableBy_8 : decode cX1_readableBy 8 = .ok (.iconst 0, 1) := dk_3 (dk_at dksX1_readableBy_0 8 rfl rfl)
theorem dX1_readableBy_9 : decode cX1_readableBy 9 = .ok (.istore 4, 2) := dk_54 4 (dk_at dksX1_readableBy_0 9 rfl rfl)
theorem dX1_readableBy_11 : decode cX1_readableBy 11 = .ok (.iconst 0, 1) := dk_3 (dk_at dksX1_readableBy_0 11 rfl rfl)
theorem dX1_readableBy_12 : decode cX1_readableBy 12 = .ok (.istore 5, 2) := dk_54 5 (dk_at dksX1_readableBy_0 12 rfl rfl)
theorem dX1_readableBy_14 : decode cX1_readableBy 14 = .ok (.iload 5, 2) := dk_21 5 (dk_at dksX1_readableBy_0 14 rfl rfl)
theorem dX1_readableBy_16 : decode cX1_readableBy 16 = .ok (.iconst 4, 1) := dk_7 (dk_at dksX1_readableBy_0 16 rfl rfl)
theorem dX1_readableBy_17 : decode cX1_readableBy 17 = .ok (.if_icmp .ge 38, 3) := dk_162 0 38 (dk_at dksX1_readableBy_0 17 rfl rfl)
theorem dX1_readableBy_20 : decode cX1_readableBy 20 = .ok (.iload 4, 2) := dk_21 4 (dk_at dksX1_readableBy_0 20 rfl rfl)
theorem dX1_readableBy_22 : decode cX1_readableBy 22 = .ok (.aload_n 0, 1) := dk_42 (dk_at dksX1_readableBy_0 22 rfl rfl)
theorem dX1_readableBy_23 : decode cX1_readableBy 23 = .ok (.getfield 18, 3) := dk_180 0 18 (dk_at dksX1_readableBy_1 0 rfl rfl)
theorem dX1_readableBy_26 : decode cX1_readableBy 26 = .ok (.iload 5, 2) := dk_21 5 (dk_at dksX1_readableBy_1 3 rfl rfl)
theorem dX1_readableBy_28 : decode cX1_readableBy 28 = .ok (.iload_n 2, 1) := dk_28 (dk_at dksX1_readableBy_1 5 rfl rfl)
theorem dX1_readableBy_29 : decode cX1_readableBy 29 = .ok (.iload_n 1, 1) := dk_27 (dk_at dksX1_readableBy_1 6 rfl rfl)
theorem dX1_readableBy_30 : decode cX1_readableBy 30 = .ok (.iload_n 3, 1) := dk_29 (dk_at dksX1_readableBy_1 7 rfl rfl)
theorem dX1_readableBy_31 : decode cX1_readableBy 31 = .ok (.invokevirtual 259, 3) := dk_182 1 3 (dk_at dksX1_readableBy_1 8 rfl rfl)
theorem dX1_readableBy_34 : decode cX1_readableBy 34 = .ok (.iconst (-1), 1) := dk_2 (dk_at dksX1_readableBy_1 11 rfl rfl)
theorem dX1_readableBy_35 : decode cX1_readableBy 35 = .ok (.if_icmp .eq 10, 3) := dk_159 0 10 (dk_at dksX1_readableBy_1 12 rfl rfl)
theorem dX1_readableBy_38 : decode cX1_readableBy 38 = .ok (.iconst 1, 1) := dk_4 (dk_at dksX1_readableBy_1 15 rfl rfl)
theorem dX1_readableBy_39 : decode cX1_readableBy 39 = .ok (.iload 5, 2) := dk_21 5 (dk_at dksX1_readableBy_1 16 rfl rfl)
theorem dX1_readableBy_41 : decode cX1_readableBy 41 = .ok (.ishl, 1) := dk_120 (dk_at dksX1_readableBy_1 18 rfl rfl)
theorem dX1_readableBy_42 : decode cX1_readableBy 42 = .ok (.goto 4, 3) := dk_167 0 4 (dk_at dksX1_readableBy_1 19 rfl rfl)
theorem dX1_readableBy_45 : decode cX1_readableBy 45 = .ok (.iconst 0, 1) := dk_3 (dk_at dksX1_readableBy_1 22 rfl rfl)
theorem dX1_readableBy_46 : decode cX1_readableBy 46 = .ok (.ior, 1) := dk_128 (dk_at dksX1_readableBy_1 23 rfl rfl)
theorem dX1_readableBy_47 : decode cX1_readableBy 47 = .ok (.istore 4, 2) := dk_54 4 (dk_at dksX1_readableBy_2 0 rfl rfl)
theorem dX1_readableBy_49 : decode cX1_readableBy 49 = .ok (.iinc 5 1, 3) := dk_132 5 1 (dk_at dksX1_readableBy_2 2 rfl rfl)
theorem dX1_readableBy_52 : decode cX1_readableBy 52 = .ok (.goto (-38), 3) := dk_167 255 218 (dk_at dksX1_readableBy_2 5 rfl rfl)
theorem dX1_readableBy_55 : decode cX1_readableBy 55 = .ok (.iload 4, 2) := dk_21 4 (dk_at dksX1_readableBy_2 8 rfl rfl)
theorem dX1_readableBy_57 : decode cX1_readableBy 57 = .ok (.ireturn, 1) := dk_172 (dk_at dksX1_readableBy_2 10 rfl rfl)
abbrev cX1_readableIn : ByteArray := prog_1_method_52_code
def yX1_readableIn : MethodName := ⟨RX1, "readableIn", "(II)I"⟩
def dkwX1_readableIn_0 : List UInt8 := [42, 27, 182, 0, 71, 87, 42, 28, 182, 0, 94, 87, 42, 180, 0, 18, 27, 28, 182, 1, 6, 172]
abbrev dktX1_readableIn_0 : List UInt8 := dkwX1_readableIn_0 ++ []
theorem dksX1_readableIn_0 : cX1_readableIn.data.toList.drop 0 = dktX1_readableIn_0 := by decide +kernel
theorem dX1_readableIn_0 : decode cX1_readableIn 0 = .ok (.aload_n 0, 1) := dk_42 (dk_at dksX1_readableIn_0 0 rfl rfl)
theorem dX1_readableIn_1 : decode cX1_readableIn 1 = .ok (.iload_n 1, 1) := dk_27 (dk_at dksX1_readableIn_0 1 rfl rfl)
theorem dX1_readableIn_2 : decode cX1_readableIn 2 = .ok (.invokevirtual 71, 3) := dk_182 0 71 (dk_at dksX1_readableIn_0 2 rfl rfl)
theorem dX1_readableIn_5 : decode cX1_readableIn 5 = .ok (.pop, 1) := dk_87 (dk_at dksX1_readableIn_0 5 rfl rfl)
theorem dX1_readableIn_6 : decode cX1_readableIn 6 = .ok (.aload_n 0, 1) := dk_42 (dk_at dksX1_readableIn_0 6 rfl rfl)
theorem dX1_readableIn_7 : decode cX1_readableIn 7 = .ok (.iload_n 2, 1) := dk_28 (dk_at dksX1_readableIn_0 7 rfl rfl)
theorem dX1_readableIn_8 : decode cX1_readableIn 8 = .ok (.invokevirtual 94, 3) := dk_182 0 94 (dk_at dksX1_readableIn_0 8 rfl rfl)
theorem dX1_readableIn_11 : decode cX1_readableIn 11 = .ok (.pop, 1) := dk_87 (dk_at dksX1_readableIn_0 11 rfl rfl)
theorem dX1_readableIn_12 : decode cX1_readableIn 12 = .ok (.aload_n 0, 1) := dk_42 (dk_at dksX1_readableIn_0 12 rfl rfl)
theorem dX1_readableIn_13 : decode cX1_readableIn 13 = .ok (.getfield 18, 3) := dk_180 0 18 (dk_at dksX1_readableIn_0 13 rfl rfl)
theorem dX1_readableIn_16 : decode cX1_readableIn 16 = .ok (.iload_n 1, 1) := dk_27 (dk_at dksX1_readableIn_0 16 rfl rfl)
theorem dX1_readableIn_17 : decode cX1_readableIn 17 = .ok (.iload_n 2, 1) := dk_28 (dk_at dksX1_readableIn_0 17 rfl rfl)
theorem dX1_readableIn_18 : decode cX1_readableIn 18 = .ok (.invokevirtual 262, 3) := dk_182 1 6 (dk_at dksX1_readableIn_0 18 rfl rfl)
theorem dX1_readableIn_21 : decode cX1_readableIn 21 = .ok (.ireturn, 1) := dk_172 (dk_at dksX1_readableIn_0 21 rfl rfl)
abbrev cX1_append : ByteArray := prog_1_method_59_code
def yX1_append : MethodName := ⟨RX1, "append", "(I)I"⟩
def dkwX1_append_1 : List UInt8 := [3, 184, 0, 119, 42, 180, 0, 34, 27, 146, 182, 1, 28, 87, 42, 180, 0, 34, 182, 1, 25, 172]
abbrev dktX1_append_1 : List UInt8 := dkwX1_append_1 ++ []
def dkwX1_append_0 : List UInt8 := [27, 16, 32, 16, 126, 184, 0, 123, 42, 180, 0, 34, 182, 1, 25, 16, 60, 162, 0, 7, 4, 167, 0, 4]
abbrev dktX1_append_0 : List UInt8 := dkwX1_append_0 ++ dktX1_append_1
theorem dksX1_append_0 : cX1_append.data.toList.drop 0 = dktX1_append_0 := by decide +kernel
theorem dksX1_append_1 : cX1_append.data.toList.drop 24 = dktX1_append_1 := dk_seg dksX1_append_0 24 rfl rfl
theorem dX1_append_0 : decode cX1_append 0 = .ok (.iload_n 1, 1) := dk_27 (dk_at dksX1_append_0 0 rfl rfl)
theorem dX1_append_1 : decode cX1_append 1 = .ok (.bipush 32, 2) := dk_16 32 (dk_at dksX1_append_0 1 rfl rfl)
theorem dX1_append_3 : decode cX1_append 3 = .ok (.bipush 126, 2) := dk_16 126 (dk_at dksX1_append_0 3 rfl rfl)
theorem dX1_append_5 : decode cX1_append 5 = .ok (.invokestatic 123, 3) := dk_184 0 123 (dk_at dksX1_append_0 5 rfl rfl)
theorem dX1_append_8 : decode cX1_append 8 = .ok (.aload_n 0, 1) := dk_42 (dk_at dksX1_append_0 8 rfl rfl)
theorem dX1_append_9 : decode cX1_append 9 = .ok (.getfield 34, 3) := dk_180 0 34 (dk_at dksX1_append_0 9 rfl rfl)
theorem dX1_append_12 : decode cX1_append 12 = .ok (.invokevirtual 281, 3) := dk_182 1 25 (dk_at dksX1_append_0 12 rfl rfl)
theorem dX1_append_15 : decode cX1_append 15 = .ok (.bipush 60, 2) := dk_16 60 (dk_at dksX1_append_0 15 rfl rfl)
theorem dX1_append_17 : decode cX1_append 17 = .ok (.if_icmp .ge 7, 3) := dk_162 0 7 (dk_at dksX1_append_0 17 rfl rfl)
theorem dX1_append_20 : decode cX1_append 20 = .ok (.iconst 1, 1) := dk_4 (dk_at dksX1_append_0 20 rfl rfl)
theorem dX1_append_21 : decode cX1_append 21 = .ok (.goto 4, 3) := dk_167 0 4 (dk_at dksX1_append_0 21 rfl rfl)
theorem dX1_append_24 : decode cX1_append 24 = .ok (.iconst 0, 1) := dk_3 (dk_at dksX1_append_1 0 rfl rfl)
theorem dX1_append_25 : decode cX1_append 25 = .ok (.invokestatic 119, 3) := dk_184 0 119 (dk_at dksX1_append_1 1 rfl rfl)
theorem dX1_append_28 : decode cX1_append 28 = .ok (.aload_n 0, 1) := dk_42 (dk_at dksX1_append_1 4 rfl rfl)
theorem dX1_append_29 : decode cX1_append 29 = .ok (.getfield 34, 3) := dk_180 0 34 (dk_at dksX1_append_1 5 rfl rfl)
theorem dX1_append_32 : decode cX1_append 32 = .ok (.iload_n 1, 1) := dk_27 (dk_at dksX1_append_1 8 rfl rfl)
theorem dX1_append_33 : decode cX1_append 33 = .ok (.i2c, 1) := dk_146 (dk_at dksX1_append_1 9 rfl rfl)
theorem dX1_append_34 : decode cX1_append 34 = .ok (.invokevirtual 284, 3) := dk_182 1 28 (dk_at dksX1_append_1 10 rfl rfl)
theorem dX1_append_37 : decode cX1_append 37 = .ok (.pop, 1) := dk_87 (dk_at dksX1_append_1 13 rfl rfl)
theorem dX1_append_38 : decode cX1_append 38 = .ok (.aload_n 0, 1) := dk_42 (dk_at dksX1_append_1 14 rfl rfl)
theorem dX1_append_39 : decode cX1_append 39 = .ok (.getfield 34, 3) := dk_180 0 34 (dk_at dksX1_append_1 15 rfl rfl)
theorem dX1_append_42 : decode cX1_append 42 = .ok (.invokevirtual 281, 3) := dk_182 1 25 (dk_at dksX1_append_1 18 rfl rfl)
theorem dX1_append_45 : decode cX1_append 45 = .ok (.ireturn, 1) := dk_172 (dk_at dksX1_append_1 21 rfl rfl)
abbrev cX1_runText : ByteArray := prog_1_method_62_code
def yX1_runText : MethodName := ⟨RX1, "runText", "()I"⟩
def dkwX1_runText_1 : List UInt8 := [42, 182, 0, 127, 43, 42, 180, 0, 18, 182, 1, 45, 172]
abbrev dktX1_runText_1 : List UInt8 := dkwX1_runText_1 ++ []
def dkwX1_runText_0 : List UInt8 := [187, 1, 35, 89, 42, 183, 1, 37, 76, 43, 182, 1, 40, 154, 0, 11, 187, 0, 57, 89, 183, 0, 59, 191]
abbrev dktX1_runText_0 : List UInt8 := dkwX1_runText_0 ++ dktX1_runText_1
theorem dksX1_runText_0 : cX1_runText.data.toList.drop 0 = dktX1_runText_0 := by decide +kernel
theorem dksX1_runText_1 : cX1_runText.data.toList.drop 24 = dktX1_runText_1 := dk_seg dksX1_runText_0 24 rfl rfl
theorem dX1_runText_0 : decode cX1_runText 0 = .ok (.new 291, 3) := dk_187 1 35 (dk_at dksX1_runText_0 0 rfl rfl)
theorem dX1_runText_3 : decode cX1_runText 3 = .ok (.dup, 1) := dk_89 (dk_at dksX1_runText_0 3 rfl rfl)
theorem dX1_runText_4 : decode cX1_runText 4 = .ok (.aload_n 0, 1) := dk_42 (dk_at dksX1_runText_0 4 rfl rfl)
theorem dX1_runText_5 : decode cX1_runText 5 = .ok (.invokespecial 293, 3) := dk_183 1 37 (dk_at dksX1_runText_0 5 rfl rfl)
theorem dX1_runText_8 : decode cX1_runText 8 = .ok (.astore_n 1, 1) := dk_76 (dk_at dksX1_runText_0 8 rfl rfl)
theorem dX1_runText_9 : decode cX1_runText 9 = .ok (.aload_n 1, 1) := dk_43 (dk_at dksX1_runText_0 9 rfl rfl)
theorem dX1_runText_10 : decode cX1_runText 10 = .ok (.invokevirtual 296, 3) := dk_182 1 40 (dk_at dksX1_runText_0 10 rfl rfl)
theorem dX1_runText_13 : decode cX1_runText 13 = .ok (.ifCond .ne 11, 3) := dk_154 0 11 (dk_at dksX1_runText_0 13 rfl rfl)
theorem dX1_runText_16 : decode cX1_runText 16 = .ok (.new 57, 3) := dk_187 0 57 (dk_at dksX1_runText_0 16 rfl rfl)
theorem dX1_runText_19 : decode cX1_runText 19 = .ok (.dup, 1) := dk_89 (dk_at dksX1_runText_0 19 rfl rfl)
theorem dX1_runText_20 : decode cX1_runText 20 = .ok (.invokespecial 59, 3) := dk_183 0 59 (dk_at dksX1_runText_0 20 rfl rfl)
theorem dX1_runText_23 : decode cX1_runText 23 = .ok (.athrow, 1) := dk_191 (dk_at dksX1_runText_0 23 rfl rfl)
theorem dX1_runText_24 : decode cX1_runText 24 = .ok (.aload_n 0, 1) := dk_42 (dk_at dksX1_runText_1 0 rfl rfl)
theorem dX1_runText_25 : decode cX1_runText 25 = .ok (.invokevirtual 127, 3) := dk_182 0 127 (dk_at dksX1_runText_1 1 rfl rfl)
theorem dX1_runText_28 : decode cX1_runText 28 = .ok (.aload_n 1, 1) := dk_43 (dk_at dksX1_runText_1 4 rfl rfl)
theorem dX1_runText_29 : decode cX1_runText 29 = .ok (.aload_n 0, 1) := dk_42 (dk_at dksX1_runText_1 5 rfl rfl)
theorem dX1_runText_30 : decode cX1_runText 30 = .ok (.getfield 18, 3) := dk_180 0 18 (dk_at dksX1_runText_1 6 rfl rfl)
theorem dX1_runText_33 : decode cX1_runText 33 = .ok (.invokevirtual 301, 3) := dk_182 1 45 (dk_at dksX1_runText_1 9 rfl rfl)
theorem dX1_runText_36 : decode cX1_runText 36 = .ok (.ireturn, 1) := dk_172 (dk_at dksX1_runText_1 12 rfl rfl)
abbrev cX1_undo : ByteArray := prog_1_method_63_code
def yX1_undo : MethodName := ⟨RX1, "undo", "()I"⟩
def dkwX1_undo_1 : List UInt8 := [182, 1, 51, 192, 0, 15, 181, 0, 18, 42, 180, 0, 27, 182, 0, 38, 172]
abbrev dktX1_undo_1 : List UInt8 := dkwX1_undo_1 ++ []
def dkwX1_undo_0 : List UInt8 := [42, 180, 0, 27, 182, 1, 49, 154, 0, 7, 4, 167, 0, 4, 3, 184, 0, 119, 42, 42, 180, 0, 27]
abbrev dktX1_undo_0 : List UInt8 := dkwX1_undo_0 ++ dktX1_undo_1
theorem dksX1_undo_0 : cX1_undo.data.toList.drop 0 = dktX1_undo_0 := by decide +kernel
theorem dksX1_undo_1 : cX1_undo.data.toList.drop 23 = dktX1_undo_1 := dk_seg dksX1_undo_0 23 rfl rfl
theorem dX1_undo_0 : decode cX1_undo 0 = .ok (.aload_n 0, 1) := dk_42 (dk_at dksX1_undo_0 0 rfl rfl)
theorem dX1_undo_1 : decode cX1_undo 1 = .ok (.getfield 27, 3) := dk_180 0 27 (dk_at dksX1_undo_0 1 rfl rfl)
theorem dX1_undo_4 : decode cX1_undo 4 = .ok (.invokevirtual 305, 3) := dk_182 1 49 (dk_at dksX1_undo_0 4 rfl rfl)
theorem dX1_undo_7 : decode cX1_undo 7 = .ok (.ifCond .ne 7, 3) := dk_154 0 7 (dk_at dksX1_undo_0 7 rfl rfl)
theorem dX1_undo_10 : decode cX1_undo 10 = .ok (.iconst 1, 1) := dk_4 (dk_at dksX1_undo_0 10 rfl rfl)
theorem dX1_undo_11 : decode cX1_undo 11 = .ok (.goto 4, 3) := dk_167 0 4 (dk_at dksX1_undo_0 11 rfl rfl)
theorem dX1_undo_14 : decode cX1_undo 14 = .ok (.iconst 0, 1) := dk_3 (dk_at dksX1_undo_0 14 rfl rfl)
theorem dX1_undo_15 : decode cX1_undo 15 = .ok (.invokestatic 119, 3) := dk_184 0 119 (dk_at dksX1_undo_0 15 rfl rfl)
theorem dX1_undo_18 : decode cX1_undo 18 = .ok (.aload_n 0, 1) := dk_42 (dk_at dksX1_undo_0 18 rfl rfl)
theorem dX1_undo_19 : decode cX1_undo 19 = .ok (.aload_n 0, 1) := dk_42 (dk_at dksX1_undo_0 19 rfl rfl)
theorem dX1_undo_20 : decode cX1_undo 20 = .ok (.getfield 27, 3) := dk_180 0 27 (dk_at dksX1_undo_0 20 rfl rfl)
theorem dX1_undo_23 : decode cX1_undo 23 = .ok (.invokevirtual 307, 3) := dk_182 1 51 (dk_at dksX1_undo_1 0 rfl rfl)
theorem dX1_undo_26 : decode cX1_undo 26 = .ok (.checkcast 15, 3) := dk_192 0 15 (dk_at dksX1_undo_1 3 rfl rfl)
theorem dX1_undo_29 : decode cX1_undo 29 = .ok (.putfield 18, 3) := dk_181 0 18 (dk_at dksX1_undo_1 6 rfl rfl)
theorem dX1_undo_32 : decode cX1_undo 32 = .ok (.aload_n 0, 1) := dk_42 (dk_at dksX1_undo_1 9 rfl rfl)
theorem dX1_undo_33 : decode cX1_undo 33 = .ok (.getfield 27, 3) := dk_180 0 27 (dk_at dksX1_undo_1 10 rfl rfl)
theorem dX1_undo_36 : decode cX1_undo 36 = .ok (.invokevirtual 38, 3) := dk_182 0 38 (dk_at dksX1_undo_1 13 rfl rfl)
theorem dX1_undo_39 : decode cX1_undo 39 = .ok (.ireturn, 1) := dk_172 (dk_at dksX1_undo_1 16 rfl rfl)
abbrev cX1_restoreSnapshot : ByteArray := prog_1_method_66_code
def yX1_restoreSnapshot : MethodName := ⟨RX1, "restoreSnapshot", "()I"⟩
def dkwX1_restoreSnapshot_1 : List UInt8 := [182, 0, 46, 181, 0, 18, 42, 180, 0, 18, 180, 0, 81, 185, 0, 85, 1, 0, 172]
abbrev dktX1_restoreSnapshot_1 : List UInt8 := dkwX1_restoreSnapshot_1 ++ []
def dkwX1_restoreSnapshot_0 : List UInt8 := [42, 180, 1, 54, 198, 0, 7, 4, 167, 0, 4, 3, 184, 0, 119, 42, 182, 0, 127, 42, 42, 180, 1, 54]
abbrev dktX1_restoreSnapshot_0 : List UInt8 := dkwX1_restoreSnapshot_0 ++ dktX1_restoreSnapshot_1
theorem dksX1_restoreSnapshot_0 : cX1_restoreSnapshot.data.toList.drop 0 = dktX1_restoreSnapshot_0 := by decide +kernel
theorem dksX1_restoreSnapshot_1 : cX1_restoreSnapshot.data.toList.drop 24 = dktX1_restoreSnapshot_1 := dk_seg dksX1_restoreSnapshot_0 24 rfl rfl
theorem dX1_restoreSnapshot_0 : decode cX1_restoreSnapshot 0 = .ok (.aload_n 0, 1) := dk_42 (dk_at dksX1_restoreSnapshot_0 0 rfl rfl)
theorem dX1_restoreSnapshot_1 : decode cX1_restoreSnapshot 1 = .ok (.getfield 310, 3) := dk_180 1 54 (dk_at dksX1_restoreSnapshot_0 1 rfl rfl)
theorem dX1_restoreSnapshot_4 : decode cX1_restoreSnapshot 4 = .ok (.ifnull 7, 3) := dk_198 0 7 (dk_at dksX1_restoreSnapshot_0 4 rfl rfl)
theorem dX1_restoreSnapshot_7 : decode cX1_restoreSnapshot 7 = .ok (.iconst 1, 1) := dk_4 (dk_at dksX1_restoreSnapshot_0 7 rfl rfl)
theorem dX1_restoreSnapshot_8 : decode cX1_restoreSnapshot 8 = .ok (.goto 4, 3) := dk_167 0 4 (dk_at dksX1_restoreSnapshot_0 8 rfl rfl)
theorem dX1_restoreSnapshot_11 : decode cX1_restoreSnapshot 11 = .ok (.iconst 0, 1) := dk_3 (dk_at dksX1_restoreSnapshot_0 11 rfl rfl)
theorem dX1_restoreSnapshot_12 : decode cX1_restoreSnapshot 12 = .ok (.invokestatic 119, 3) := dk_184 0 119 (dk_at dksX1_restoreSnapshot_0 12 rfl rfl)
theorem dX1_restoreSnapshot_15 : decode cX1_restoreSnapshot 15 = .ok (.aload_n 0, 1) := dk_42 (dk_at dksX1_restoreSnapshot_0 15 rfl rfl)
theorem dX1_restoreSnapshot_16 : decode cX1_restoreSnapshot 16 = .ok (.invokevirtual 127, 3) := dk_182 0 127 (dk_at dksX1_restoreSnapshot_0 16 rfl rfl)
theorem dX1_restoreSnapshot_19 : decode cX1_restoreSnapshot 19 = .ok (.aload_n 0, 1) := dk_42 (dk_at dksX1_restoreSnapshot_0 19 rfl rfl)
theorem dX1_restoreSnapshot_20 : decode cX1_restoreSnapshot 20 = .ok (.aload_n 0, 1) := dk_42 (dk_at dksX1_restoreSnapshot_0 20 rfl rfl)
theorem dX1_restoreSnapshot_21 : decode cX1_restoreSnapshot 21 = .ok (.getfield 310, 3) := dk_180 1 54 (dk_at dksX1_restoreSnapshot_0 21 rfl rfl)
theorem dX1_restoreSnapshot_24 : decode cX1_restoreSnapshot 24 = .ok (.invokevirtual 46, 3) := dk_182 0 46 (dk_at dksX1_restoreSnapshot_1 0 rfl rfl)
theorem dX1_restoreSnapshot_27 : decode cX1_restoreSnapshot 27 = .ok (.putfield 18, 3) := dk_181 0 18 (dk_at dksX1_restoreSnapshot_1 3 rfl rfl)
theorem dX1_restoreSnapshot_30 : decode cX1_restoreSnapshot 30 = .ok (.aload_n 0, 1) := dk_42 (dk_at dksX1_restoreSnapshot_1 6 rfl rfl)
theorem dX1_restoreSnapshot_31 : decode cX1_restoreSnapshot 31 = .ok (.getfield 18, 3) := dk_180 0 18 (dk_at dksX1_restoreSnapshot_1 7 rfl rfl)
theorem dX1_restoreSnapshot_34 : decode cX1_restoreSnapshot 34 = .ok (.getfield 81, 3) := dk_180 0 81 (dk_at dksX1_restoreSnapshot_1 10 rfl rfl)
theorem dX1_restoreSnapshot_37 : decode cX1_restoreSnapshot 37 = .ok (.invokeinterface 85 1, 5) := by decide +kernel
theorem dX1_restoreSnapshot_42 : decode cX1_restoreSnapshot 42 = .ok (.ireturn, 1) := dk_172 (dk_at dksX1_restoreSnapshot_1 18 rfl rfl)
theorem q70 : (Jvm.Cond.initialized "DiskPacks") ∈ lw_all := lw_g (lw_at lw_m1 1 rfl) rfl
theorem q108 : (Jvm.Cond.instantiable "DiskPacks" (4 : Nat)) ∈ lw_all := lw_g (lw_at lw_m1 39 rfl) rfl
theorem q110 : (Jvm.Cond.instanceMethod ({ cls := "DiskPacks", name := "<init>", desc := "()V" } : Jvm.MethodName)) ∈ lw_all := lw_g (lw_at lw_m1 41 rfl) rfl
theorem q111 : (Jvm.Cond.code ({ cls := "DiskPacks", name := "<init>", desc := "()V" } : Jvm.MethodName) prog_1_method_4_code (1 : Nat) (Option.none : Option Jvm.ClassFile.FieldType)) ∈ lw_all := lw_g (lw_at lw_m1 42 rfl) rfl
theorem q112 : (Jvm.Cond.methodLink "DiskPacks" (9 : Nat) ({ cls := "java/lang/Object", name := "<init>", desc := "()V" } : Jvm.MethodName)) ∈ lw_all := lw_g (lw_at lw_m1 43 rfl) rfl
theorem q115 : (Jvm.Cond.classLink "DiskPacks" (15 : Nat) "DiskPacks$State") ∈ lw_all := lw_g (lw_at lw_m1 46 rfl) rfl
theorem q117 : (Jvm.Cond.methodLink "DiskPacks" (17 : Nat) ({ cls := "DiskPacks$State", name := "<init>", desc := "()V" } : Jvm.MethodName)) ∈ lw_all := lw_g (lw_at lw_m1 48 rfl) rfl
theorem q168 : (Jvm.Cond.fieldLink "DiskPacks" (130 : Nat) "DiskPacks$Head" "offset" "I") ∈ lw_all := lw_g (lw_at lw_m1 99 rfl) rfl
theorem q173 : (Jvm.Cond.fieldLink "DiskPacks" (147 : Nat) "DiskPacks$Head" "isStruck" "Z") ∈ lw_all := lw_g (lw_at lw_m1 104 rfl) rfl
theorem q178 : (Jvm.Cond.fieldLink "DiskPacks" (217 : Nat) "DiskPacks$Head" "badPasses" "I") ∈ lw_all := lw_g (lw_at lw_m1 109 rfl) rfl
theorem q197 : (Jvm.Cond.static ({ cls := "DiskPacks", name := "fits", desc := "([LDiskPacks$Head;ILDiskPacks$Head;)Z" } : Jvm.MethodName)) ∈ lw_all := lw_g (lw_at lw_m1 128 rfl) rfl
theorem q198 : (Jvm.Cond.codeWith ({ cls := "DiskPacks", name := "fits", desc := "([LDiskPacks$Head;ILDiskPacks$Head;)Z" } : Jvm.MethodName) prog_1_method_1_code (4 : Nat) (Option.some Jvm.ClassFile.FieldType.boolean) [((0 : Nat), (5 : Nat), (6 : Nat), (1 : Nat))]) ∈ lw_all := lw_g (lw_at lw_m1 129 rfl) rfl
theorem q199 : (Jvm.Cond.classLink "DiskPacks" (1 : Nat) "java/lang/ArrayStoreException") ∈ lw_all := lw_g (lw_at lw_m1 130 rfl) rfl
theorem q276 : (Jvm.Cond.fieldLink "DiskPacks" (143 : Nat) "DiskPacks$Drive" "servoHead" "LDiskPacks$Head;") ∈ lw_all := lw_g (lw_at lw_m1 207 rfl) rfl
theorem q278 : (Jvm.Cond.fieldLink "DiskPacks" (168 : Nat) "DiskPacks$Drive" "learned" "[I") ∈ lw_all := lw_g (lw_at lw_m1 209 rfl) rfl
theorem q281 : (Jvm.Cond.fieldLink "DiskPacks" (136 : Nat) "DiskPacks$Drive" "warmth" "I") ∈ lw_all := lw_g (lw_at lw_m1 212 rfl) rfl
theorem q284 : (Jvm.Cond.fieldLink "DiskPacks" (177 : Nat) "DiskPacks$Drive" "cylinder" "I") ∈ lw_all := lw_g (lw_at lw_m1 215 rfl) rfl
theorem q287 : (Jvm.Cond.fieldLink "DiskPacks" (139 : Nat) "DiskPacks$Drive" "isServoOn" "Z") ∈ lw_all := lw_g (lw_at lw_m1 218 rfl) rfl
theorem q290 : (Jvm.Cond.fieldLink "DiskPacks" (172 : Nat) "DiskPacks$Drive" "pack" "I") ∈ lw_all := lw_g (lw_at lw_m1 221 rfl) rfl
theorem q307 : (Jvm.Cond.fieldLink "DiskPacks" (67 : Nat) "DiskPacks$State" "drives" "[LDiskPacks$Drive;") ∈ lw_all := lw_g (lw_at lw_m1 238 rfl) rfl
theorem q309 : (Jvm.Cond.fieldLink "DiskPacks" (81 : Nat) "DiskPacks$State" "packs" "Ljava/util/List;") ∈ lw_all := lw_g (lw_at lw_m2 0 rfl) rfl
theorem q311 : (Jvm.Cond.fieldLink "DiskPacks" (271 : Nat) "DiskPacks$State" "retriesOfDrives" "[I") ∈ lw_all := lw_g (lw_at lw_m2 2 rfl) rfl
theorem q313 : (Jvm.Cond.fieldLink "DiskPacks" (278 : Nat) "DiskPacks$State" "retriesOfPacks" "[I") ∈ lw_all := lw_g (lw_at lw_m2 4 rfl) rfl
theorem q315 : (Jvm.Cond.fieldLink "DiskPacks" (187 : Nat) "DiskPacks$State" "tries" "I") ∈ lw_all := lw_g (lw_at lw_m2 6 rfl) rfl
theorem q317 : (Jvm.Cond.fieldLink "DiskPacks" (265 : Nat) "DiskPacks$State" "reads" "I") ∈ lw_all := lw_g (lw_at lw_m2 8 rfl) rfl
theorem q319 : (Jvm.Cond.fieldLink "DiskPacks" (268 : Nat) "DiskPacks$State" "failures" "I") ∈ lw_all := lw_g (lw_at lw_m2 10 rfl) rfl
theorem q335 : (Jvm.Cond.classLink "DiskPacks" (24 : Nat) "java/util/ArrayDeque") ∈ lw_all := lw_g (lw_at lw_m2 26 rfl) rfl
theorem q337 : (Jvm.Cond.methodLink "DiskPacks" (26 : Nat) ({ cls := "java/util/ArrayDeque", name := "<init>", desc := "()V" } : Jvm.MethodName)) ∈ lw_all := lw_g (lw_at lw_m2 28 rfl) rfl
theorem q353 : (Jvm.Cond.classLink "DiskPacks" (31 : Nat) "java/lang/StringBuilder") ∈ lw_all := lw_g (lw_at lw_m2 44 rfl) rfl
theorem q355 : (Jvm.Cond.methodLink "DiskPacks" (33 : Nat) ({ cls := "java/lang/StringBuilder", name := "<init>", desc := "()V" } : Jvm.MethodName)) ∈ lw_all := lw_g (lw_at lw_m2 46 rfl) rfl
theorem q385 : (Jvm.Cond.fieldLink "DiskPacks" (18 : Nat) "DiskPacks" "state" "LDiskPacks$State;") ∈ lw_all := lw_g (lw_at lw_m2 76 rfl) rfl
theorem q386 : (Jvm.Cond.fieldLink "DiskPacks" (310 : Nat) "DiskPacks" "snapshot" "LDiskPacks$State;") ∈ lw_all := lw_g (lw_at lw_m2 77 rfl) rfl
theorem q387 : (Jvm.Cond.fieldLink "DiskPacks" (27 : Nat) "DiskPacks" "history" "Ljava/util/ArrayDeque;") ∈ lw_all := lw_g (lw_at lw_m2 78 rfl) rfl
theorem q389 : (Jvm.Cond.fieldLink "DiskPacks" (34 : Nat) "DiskPacks" "buffer" "Ljava/lang/StringBuilder;") ∈ lw_all := lw_g (lw_at lw_m2 80 rfl) rfl
theorem q390 : (Jvm.Cond.lays "DiskPacks" "DiskPacks" "state" "LDiskPacks$State;") ∈ lw_all := lw_g (lw_at lw_m2 81 rfl) rfl
theorem q391 : (Jvm.Cond.soleField "DiskPacks" "state") ∈ lw_all := lw_g (lw_at lw_m2 82 rfl) rfl
theorem q392 : (Jvm.Cond.lays "DiskPacks" "DiskPacks" "snapshot" "LDiskPacks$State;") ∈ lw_all := lw_g (lw_at lw_m2 83 rfl) rfl
theorem q393 : (Jvm.Cond.soleField "DiskPacks" "snapshot") ∈ lw_all := lw_g (lw_at lw_m2 84 rfl) rfl
theorem q394 : (Jvm.Cond.laysFinal "DiskPacks" "DiskPacks" "history" "Ljava/util/ArrayDeque;") ∈ lw_all := lw_g (lw_at lw_m2 85 rfl) rfl
theorem q395 : (Jvm.Cond.soleField "DiskPacks" "history") ∈ lw_all := lw_g (lw_at lw_m2 86 rfl) rfl
theorem q396 : (Jvm.Cond.laysFinal "DiskPacks" "DiskPacks" "buffer" "Ljava/lang/StringBuilder;") ∈ lw_all := lw_g (lw_at lw_m2 87 rfl) rfl
theorem q397 : (Jvm.Cond.soleField "DiskPacks" "buffer") ∈ lw_all := lw_g (lw_at lw_m2 88 rfl) rfl
theorem q398 : (Jvm.Cond.superclass "DiskPacks" "java/lang/Object") ∈ lw_all := lw_g (lw_at lw_m2 89 rfl) rfl
theorem q400 : (Jvm.Cond.instanceMethod ({ cls := "DiskPacks", name := "packs", desc := "()I" } : Jvm.MethodName)) ∈ lw_all := lw_g (lw_at lw_m2 91 rfl) rfl
theorem q401 : (Jvm.Cond.selects "DiskPacks" ({ cls := "DiskPacks", name := "packs", desc := "()I" } : Jvm.MethodName) ({ cls := "DiskPacks", name := "packs", desc := "()I" } : Jvm.MethodName)) ∈ lw_all := lw_g (lw_at lw_m2 92 rfl) rfl
theorem q402 : (Jvm.Cond.code ({ cls := "DiskPacks", name := "packs", desc := "()I" } : Jvm.MethodName) prog_1_method_38_code (1 : Nat) (Option.some Jvm.ClassFile.FieldType.int)) ∈ lw_all := lw_g (lw_at lw_m2 93 rfl) rfl
theorem q403 : (Jvm.Cond.interfaceEntry "DiskPacks" (85 : Nat)) ∈ lw_tbl := lw_at lw_m2 94 rfl
theorem q404 : (Jvm.Cond.methodLink "DiskPacks" (85 : Nat) ({ cls := "java/util/List", name := "size", desc := "()I" } : Jvm.MethodName)) ∈ lw_all := lw_g (lw_at lw_m2 95 rfl) rfl
theorem q414 : (Jvm.Cond.instanceMethod ({ cls := "DiskPacks", name := "reads", desc := "()I" } : Jvm.MethodName)) ∈ lw_all := lw_g (lw_at lw_m2 105 rfl) rfl
theorem q415 : (Jvm.Cond.selects "DiskPacks" ({ cls := "DiskPacks", name := "reads", desc := "()I" } : Jvm.MethodName) ({ cls := "DiskPacks", name := "reads", desc := "()I" } : Jvm.MethodName)) ∈ lw_all := lw_g (lw_at lw_m2 106 rfl) rfl
theorem q416 : (Jvm.Cond.code ({ cls := "DiskPacks", name := "reads", desc := "()I" } : Jvm.MethodName) prog_1_method_53_code (1 : Nat) (Option.some Jvm.ClassFile.FieldType.int)) ∈ lw_all := lw_g (lw_at lw_m2 107 rfl) rfl
theorem q418 : (Jvm.Cond.instanceMethod ({ cls := "DiskPacks", name := "failures", desc := "()I" } : Jvm.MethodName)) ∈ lw_all := lw_g (lw_at lw_m2 109 rfl) rfl
theorem q419 : (Jvm.Cond.selects "DiskPacks" ({ cls := "DiskPacks", name := "failures", desc := "()I" } : Jvm.MethodName) ({ cls := "DiskPacks", name := "failures", desc := "()I" } : Jvm.MethodName)) ∈ lw_all := lw_g (lw_at lw_m2 110 rfl) rfl
theorem q420 : (Jvm.Cond.code ({ cls := "DiskPacks", name := "failures", desc := "()I" } : Jvm.MethodName) prog_1_method_54_code (1 : Nat) (Option.some Jvm.ClassFile.FieldType.int)) ∈ lw_all := lw_g (lw_at lw_m2 111 rfl) rfl
theorem q422 : (Jvm.Cond.instanceMethod ({ cls := "DiskPacks", name := "retriesByDrives", desc := "()I" } : Jvm.MethodName)) ∈ lw_all := lw_g (lw_at lw_m2 113 rfl) rfl
theorem q423 : (Jvm.Cond.selects "DiskPacks" ({ cls := "DiskPacks", name := "retriesByDrives", desc := "()I" } : Jvm.MethodName) ({ cls := "DiskPacks", name := "retriesByDrives", desc := "()I" } : Jvm.MethodName)) ∈ lw_all := lw_g (lw_at lw_m2 114 rfl) rfl
theorem q424 : (Jvm.Cond.code ({ cls := "DiskPacks", name := "retriesByDrives", desc := "()I" } : Jvm.MethodName) prog_1_method_56_code (1 : Nat) (Option.some Jvm.ClassFile.FieldType.int)) ∈ lw_all := lw_g (lw_at lw_m2 115 rfl) rfl
theorem q425 : (Jvm.Cond.methodLink "DiskPacks" (274 : Nat) ({ cls := "DiskPacks", name := "sum", desc := "([I)I" } : Jvm.MethodName)) ∈ lw_all := lw_g (lw_at lw_m2 116 rfl) rfl
theorem q426 : (Jvm.Cond.static ({ cls := "DiskPacks", name := "sum", desc := "([I)I" } : Jvm.MethodName)) ∈ lw_all := lw_g (lw_at lw_m2 117 rfl) rfl
theorem q427 : (Jvm.Cond.code ({ cls := "DiskPacks", name := "sum", desc := "([I)I" } : Jvm.MethodName) prog_1_method_55_code (3 : Nat) (Option.some Jvm.ClassFile.FieldType.int)) ∈ lw_all := lw_g (lw_at lw_m2 118 rfl) rfl
theorem q429 : (Jvm.Cond.instanceMethod ({ cls := "DiskPacks", name := "retriesByPacks", desc := "()I" } : Jvm.MethodName)) ∈ lw_all := lw_g (lw_at lw_m2 120 rfl) rfl
theorem q430 : (Jvm.Cond.selects "DiskPacks" ({ cls := "DiskPacks", name := "retriesByPacks", desc := "()I" } : Jvm.MethodName) ({ cls := "DiskPacks", name := "retriesByPacks", desc := "()I" } : Jvm.MethodName)) ∈ lw_all := lw_g (lw_at lw_m2 121 rfl) rfl
theorem q431 : (Jvm.Cond.code ({ cls := "DiskPacks", name := "retriesByPacks", desc := "()I" } : Jvm.MethodName) prog_1_method_57_code (1 : Nat) (Option.some Jvm.ClassFile.FieldType.int)) ∈ lw_all := lw_g (lw_at lw_m2 122 rfl) rfl
theorem q433 : (Jvm.Cond.instanceMethod ({ cls := "DiskPacks", name := "meanRetries", desc := "()D" } : Jvm.MethodName)) ∈ lw_all := lw_g (lw_at lw_m2 124 rfl) rfl
theorem q434 : (Jvm.Cond.selects "DiskPacks" ({ cls := "DiskPacks", name := "meanRetries", desc := "()D" } : Jvm.MethodName) ({ cls := "DiskPacks", name := "meanRetries", desc := "()D" } : Jvm.MethodName)) ∈ lw_all := lw_g (lw_at lw_m2 125 rfl) rfl
theorem q435 : (Jvm.Cond.code ({ cls := "DiskPacks", name := "meanRetries", desc := "()D" } : Jvm.MethodName) prog_1_method_58_code (2 : Nat) (Option.some Jvm.ClassFile.FieldType.double)) ∈ lw_all := lw_g (lw_at lw_m2 126 rfl) rfl
theorem q437 : (Jvm.Cond.instanceMethod ({ cls := "DiskPacks", name := "clearText", desc := "()I" } : Jvm.MethodName)) ∈ lw_all := lw_g (lw_at lw_m2 128 rfl) rfl
theorem q438 : (Jvm.Cond.selects "DiskPacks" ({ cls := "DiskPacks", name := "clearText", desc := "()I" } : Jvm.MethodName) ({ cls := "DiskPacks", name := "clearText", desc := "()I" } : Jvm.MethodName)) ∈ lw_all := lw_g (lw_at lw_m2 129 rfl) rfl
theorem q439 : (Jvm.Cond.code ({ cls := "DiskPacks", name := "clearText", desc := "()I" } : Jvm.MethodName) prog_1_method_60_code (2 : Nat) (Option.some Jvm.ClassFile.FieldType.int)) ∈ lw_all := lw_g (lw_at lw_m2 130 rfl) rfl
theorem q440 : (Jvm.Cond.methodLink "DiskPacks" (281 : Nat) ({ cls := "java/lang/StringBuilder", name := "length", desc := "()I" } : Jvm.MethodName)) ∈ lw_all := lw_g (lw_at lw_m2 131 rfl) rfl
theorem q447 : (Jvm.Cond.methodLink "DiskPacks" (288 : Nat) ({ cls := "java/lang/StringBuilder", name := "setLength", desc := "(I)V" } : Jvm.MethodName)) ∈ lw_all := lw_g (lw_at lw_m2 138 rfl) rfl
theorem q727 : (Jvm.Cond.instanceMethod ({ cls := "DiskPacks", name := "errorPosition", desc := "()I" } : Jvm.MethodName)) ∈ lw_all := lw_g (lw_at lw_m3 178 rfl) rfl
theorem q728 : (Jvm.Cond.selects "DiskPacks" ({ cls := "DiskPacks", name := "errorPosition", desc := "()I" } : Jvm.MethodName) ({ cls := "DiskPacks", name := "errorPosition", desc := "()I" } : Jvm.MethodName)) ∈ lw_all := lw_g (lw_at lw_m3 179 rfl) rfl
theorem q729 : (Jvm.Cond.code ({ cls := "DiskPacks", name := "errorPosition", desc := "()I" } : Jvm.MethodName) prog_1_method_61_code (2 : Nat) (Option.some Jvm.ClassFile.FieldType.int)) ∈ lw_all := lw_g (lw_at lw_m3 180 rfl) rfl
theorem q730 : (Jvm.Cond.classLink "DiskPacks" (291 : Nat) "DiskPacks$TextReader") ∈ lw_all := lw_g (lw_at lw_m3 181 rfl) rfl
theorem q732 : (Jvm.Cond.methodLinkNest "DiskPacks" (293 : Nat) ({ cls := "DiskPacks$TextReader", name := "<init>", desc := "(LDiskPacks;)V" } : Jvm.MethodName) "DiskPacks") ∈ lw_tbl := lw_at lw_m3 183 rfl
theorem q739 : (Jvm.Cond.fieldLinkNest "DiskPacks" (299 : Nat) "DiskPacks$TextReader" "place" "I" "DiskPacks") ∈ lw_tbl := lw_at lw_m3 190 rfl
theorem q755 : (Jvm.Cond.methodLink "DiskPacks" (296 : Nat) ({ cls := "DiskPacks$TextReader", name := "readAll", desc := "()Z" } : Jvm.MethodName)) ∈ lw_all := lw_g (lw_at lw_m3 206 rfl) rfl
theorem q845 : (Jvm.Cond.static ({ cls := "DiskPacks", name := "none", desc := "([LDiskPacks$Reason;)Z" } : Jvm.MethodName)) ∈ lw_all := lw_g (lw_at lw_m4 56 rfl) rfl
theorem q846 : (Jvm.Cond.code ({ cls := "DiskPacks", name := "none", desc := "([LDiskPacks$Reason;)Z" } : Jvm.MethodName) prog_1_method_3_code (2 : Nat) (Option.some Jvm.ClassFile.FieldType.boolean)) ∈ lw_all := lw_g (lw_at lw_m4 57 rfl) rfl
theorem q847 : (Jvm.Cond.interfaceEntry "DiskPacks" (3 : Nat)) ∈ lw_tbl := lw_at lw_m4 58 rfl
theorem q848 : (Jvm.Cond.methodLink "DiskPacks" (3 : Nat) ({ cls := "DiskPacks$Reason", name := "holds", desc := "()Z" } : Jvm.MethodName)) ∈ lw_all := lw_g (lw_at lw_m4 59 rfl) rfl
theorem q918 : (Jvm.Cond.static ({ cls := "DiskPacks", name := "apart", desc := "(II)I" } : Jvm.MethodName)) ∈ lw_all := lw_g (lw_at lw_m4 129 rfl) rfl
theorem q919 : (Jvm.Cond.code ({ cls := "DiskPacks", name := "apart", desc := "(II)I" } : Jvm.MethodName) prog_1_method_2_code (2 : Nat) (Option.some Jvm.ClassFile.FieldType.int)) ∈ lw_all := lw_g (lw_at lw_m4 130 rfl) rfl
theorem q1017 : (Jvm.Cond.instanceMethod ({ cls := "DiskPacks", name := "savedStates", desc := "()I" } : Jvm.MethodName)) ∈ lw_all := lw_g (lw_at lw_m4 228 rfl) rfl
theorem q1018 : (Jvm.Cond.selects "DiskPacks" ({ cls := "DiskPacks", name := "savedStates", desc := "()I" } : Jvm.MethodName) ({ cls := "DiskPacks", name := "savedStates", desc := "()I" } : Jvm.MethodName)) ∈ lw_all := lw_g (lw_at lw_m4 229 rfl) rfl
theorem q1019 : (Jvm.Cond.code ({ cls := "DiskPacks", name := "savedStates", desc := "()I" } : Jvm.MethodName) prog_1_method_64_code (1 : Nat) (Option.some Jvm.ClassFile.FieldType.int)) ∈ lw_all := lw_g (lw_at lw_m4 230 rfl) rfl
theorem q1020 : (Jvm.Cond.methodLink "DiskPacks" (38 : Nat) ({ cls := "java/util/ArrayDeque", name := "size", desc := "()I" } : Jvm.MethodName)) ∈ lw_all := lw_g (lw_at lw_m4 231 rfl) rfl
theorem q1028 : (Jvm.Cond.instanceMethod ({ cls := "DiskPacks", name := "takeSnapshot", desc := "()I" } : Jvm.MethodName)) ∈ lw_all := lw_g (lw_at lw_m4 239 rfl) rfl
theorem q1029 : (Jvm.Cond.selects "DiskPacks" ({ cls := "DiskPacks", name := "takeSnapshot", desc := "()I" } : Jvm.MethodName) ({ cls := "DiskPacks", name := "takeSnapshot", desc := "()I" } : Jvm.MethodName)) ∈ lw_all := lw_g (lw_at lw_m5 0 rfl) rfl
theorem q1030 : (Jvm.Cond.code ({ cls := "DiskPacks", name := "takeSnapshot", desc := "()I" } : Jvm.MethodName) prog_1_method_65_code (1 : Nat) (Option.some Jvm.ClassFile.FieldType.int)) ∈ lw_all := lw_g (lw_at lw_m5 1 rfl) rfl
theorem q1031 : (Jvm.Cond.methodLink "DiskPacks" (46 : Nat) ({ cls := "DiskPacks$State", name := "copy", desc := "()LDiskPacks$State;" } : Jvm.MethodName)) ∈ lw_all := lw_g (lw_at lw_m5 2 rfl) rfl
theorem q1104 : (Jvm.Cond.fieldLink "DiskPacks" (233 : Nat) "DiskPacks$Surface" "values" "[I") ∈ lw_all := lw_g (lw_at lw_m5 75 rfl) rfl
theorem q1107 : (Jvm.Cond.fieldLink "DiskPacks" (195 : Nat) "DiskPacks$Surface" "positions" "[I") ∈ lw_all := lw_g (lw_at lw_m5 78 rfl) rfl
theorem q1110 : (Jvm.Cond.fieldLink "DiskPacks" (239 : Nat) "DiskPacks$Surface" "strengths" "[F") ∈ lw_all := lw_g (lw_at lw_m5 81 rfl) rfl
theorem q1114 : (Jvm.Cond.fieldLink "DiskPacks" (226 : Nat) "DiskPacks$Surface" "isScratched" "Z") ∈ lw_all := lw_g (lw_at lw_m5 85 rfl) rfl
theorem q1127 : (Jvm.Cond.fieldLink "DiskPacks" (223 : Nat) "DiskPacks$Pack" "base" "I") ∈ lw_all := lw_g (lw_at lw_m5 98 rfl) rfl
theorem q1129 : (Jvm.Cond.fieldLink "DiskPacks" (98 : Nat) "DiskPacks$Pack" "surfaces" "[LDiskPacks$Surface;") ∈ lw_all := lw_g (lw_at lw_m5 100 rfl) rfl
theorem q1133 : (Jvm.Cond.fieldLink "DiskPacks" (212 : Nat) "DiskPacks$Pack" "drive" "I") ∈ lw_all := lw_g (lw_at lw_m5 104 rfl) rfl
theorem q1169 : (Jvm.Cond.selects "DiskPacks" ({ cls := "java/lang/Object", name := "getClass", desc := "()Ljava/lang/Class;" } : Jvm.MethodName) ({ cls := "java/lang/Object", name := "getClass", desc := "()Ljava/lang/Class;" } : Jvm.MethodName)) ∈ lw_all := lw_g (lw_at lw_m5 140 rfl) rfl
theorem q1204 : (Jvm.Cond.instanceMethod ({ cls := "DiskPacks", name := "adjust", desc := "(III)I" } : Jvm.MethodName)) ∈ lw_all := lw_g (lw_at lw_m5 175 rfl) rfl
theorem q1205 : (Jvm.Cond.selects "DiskPacks" ({ cls := "DiskPacks", name := "adjust", desc := "(III)I" } : Jvm.MethodName) ({ cls := "DiskPacks", name := "adjust", desc := "(III)I" } : Jvm.MethodName)) ∈ lw_all := lw_g (lw_at lw_m5 176 rfl) rfl
theorem q1206 : (Jvm.Cond.code ({ cls := "DiskPacks", name := "adjust", desc := "(III)I" } : Jvm.MethodName) prog_1_method_16_code (5 : Nat) (Option.some Jvm.ClassFile.FieldType.int)) ∈ lw_all := lw_g (lw_at lw_m5 177 rfl) rfl
theorem q1207 : (Jvm.Cond.methodLink "DiskPacks" (106 : Nat) ({ cls := "DiskPacks", name := "head", desc := "(II)LDiskPacks$Head;" } : Jvm.MethodName)) ∈ lw_all := lw_g (lw_at lw_m5 178 rfl) rfl
theorem q1208 : (Jvm.Cond.privateMethod ({ cls := "DiskPacks", name := "head", desc := "(II)LDiskPacks$Head;" } : Jvm.MethodName)) ∈ lw_tbl := lw_at lw_m5 179 rfl
theorem q1209 : (Jvm.Cond.instanceMethod ({ cls := "DiskPacks", name := "head", desc := "(II)LDiskPacks$Head;" } : Jvm.MethodName)) ∈ lw_all := lw_g (lw_at lw_m5 180 rfl) rfl
theorem q1210 : (Jvm.Cond.code ({ cls := "DiskPacks", name := "head", desc := "(II)LDiskPacks$Head;" } : Jvm.MethodName) prog_1_method_10_code (4 : Nat) (Option.some (Jvm.ClassFile.FieldType.object "DiskPacks$Head"))) ∈ lw_all := lw_g (lw_at lw_m5 181 rfl) rfl
theorem q1211 : (Jvm.Cond.methodLink "DiskPacks" (71 : Nat) ({ cls := "DiskPacks", name := "drive", desc := "(I)LDiskPacks$Drive;" } : Jvm.MethodName)) ∈ lw_all := lw_g (lw_at lw_m5 182 rfl) rfl
theorem q1212 : (Jvm.Cond.privateMethod ({ cls := "DiskPacks", name := "drive", desc := "(I)LDiskPacks$Drive;" } : Jvm.MethodName)) ∈ lw_tbl := lw_at lw_m5 183 rfl
theorem q1213 : (Jvm.Cond.instanceMethod ({ cls := "DiskPacks", name := "drive", desc := "(I)LDiskPacks$Drive;" } : Jvm.MethodName)) ∈ lw_all := lw_g (lw_at lw_m5 184 rfl) rfl
theorem q1214 : (Jvm.Cond.code ({ cls := "DiskPacks", name := "drive", desc := "(I)LDiskPacks$Drive;" } : Jvm.MethodName) prog_1_method_9_code (2 : Nat) (Option.some (Jvm.ClassFile.FieldType.object "DiskPacks$Drive"))) ∈ lw_all := lw_g (lw_at lw_m5 185 rfl) rfl
theorem q1215 : (Jvm.Cond.methodLink "DiskPacks" (63 : Nat) ({ cls := "DiskPacks", name := "checkNumber", desc := "(II)V" } : Jvm.MethodName)) ∈ lw_all := lw_g (lw_at lw_m5 186 rfl) rfl
theorem q1216 : (Jvm.Cond.static ({ cls := "DiskPacks", name := "checkNumber", desc := "(II)V" } : Jvm.MethodName)) ∈ lw_all := lw_g (lw_at lw_m5 187 rfl) rfl
theorem q1217 : (Jvm.Cond.code ({ cls := "DiskPacks", name := "checkNumber", desc := "(II)V" } : Jvm.MethodName) prog_1_method_6_code (2 : Nat) (Option.none : Option Jvm.ClassFile.FieldType)) ∈ lw_all := lw_g (lw_at lw_m5 188 rfl) rfl
theorem q1218 : (Jvm.Cond.classLink "DiskPacks" (54 : Nat) "java/lang/IndexOutOfBoundsException") ∈ lw_all := lw_g (lw_at lw_m5 189 rfl) rfl
theorem q1227 : (Jvm.Cond.methodLink "DiskPacks" (56 : Nat) ({ cls := "java/lang/IndexOutOfBoundsException", name := "<init>", desc := "()V" } : Jvm.MethodName)) ∈ lw_all := lw_g (lw_at lw_m5 198 rfl) rfl
theorem q1239 : (Jvm.Cond.methodLink "DiskPacks" (75 : Nat) ({ cls := "DiskPacks$Drive", name := "head", desc := "(I)LDiskPacks$Head;" } : Jvm.MethodName)) ∈ lw_all := lw_g (lw_at lw_m5 210 rfl) rfl
theorem q1240 : (Jvm.Cond.methodLink "DiskPacks" (123 : Nat) ({ cls := "DiskPacks", name := "checkRange", desc := "(III)V" } : Jvm.MethodName)) ∈ lw_all := lw_g (lw_at lw_m5 211 rfl) rfl
theorem q1241 : (Jvm.Cond.static ({ cls := "DiskPacks", name := "checkRange", desc := "(III)V" } : Jvm.MethodName)) ∈ lw_all := lw_g (lw_at lw_m5 212 rfl) rfl
theorem q1242 : (Jvm.Cond.code ({ cls := "DiskPacks", name := "checkRange", desc := "(III)V" } : Jvm.MethodName) prog_1_method_7_code (3 : Nat) (Option.none : Option Jvm.ClassFile.FieldType)) ∈ lw_all := lw_g (lw_at lw_m5 213 rfl) rfl
theorem q1243 : (Jvm.Cond.classLink "DiskPacks" (57 : Nat) "java/lang/IllegalArgumentException") ∈ lw_all := lw_g (lw_at lw_m5 214 rfl) rfl
theorem q1244 : (Jvm.Cond.methodLink "DiskPacks" (59 : Nat) ({ cls := "java/lang/IllegalArgumentException", name := "<init>", desc := "()V" } : Jvm.MethodName)) ∈ lw_all := lw_g (lw_at lw_m5 215 rfl) rfl
theorem q1248 : (Jvm.Cond.methodLink "DiskPacks" (127 : Nat) ({ cls := "DiskPacks", name := "save", desc := "()V" } : Jvm.MethodName)) ∈ lw_all := lw_g (lw_at lw_m5 219 rfl) rfl
theorem q1249 : (Jvm.Cond.privateMethod ({ cls := "DiskPacks", name := "save", desc := "()V" } : Jvm.MethodName)) ∈ lw_tbl := lw_at lw_m5 220 rfl
theorem q1250 : (Jvm.Cond.instanceMethod ({ cls := "DiskPacks", name := "save", desc := "()V" } : Jvm.MethodName)) ∈ lw_all := lw_g (lw_at lw_m5 221 rfl) rfl
theorem q1251 : (Jvm.Cond.code ({ cls := "DiskPacks", name := "save", desc := "()V" } : Jvm.MethodName) prog_1_method_5_code (1 : Nat) (Option.none : Option Jvm.ClassFile.FieldType)) ∈ lw_all := lw_g (lw_at lw_m5 222 rfl) rfl
theorem q1252 : (Jvm.Cond.methodLink "DiskPacks" (42 : Nat) ({ cls := "java/util/ArrayDeque", name := "removeFirst", desc := "()Ljava/lang/Object;" } : Jvm.MethodName)) ∈ lw_all := lw_g (lw_at lw_m5 223 rfl) rfl
theorem q1266 : (Jvm.Cond.methodLink "DiskPacks" (50 : Nat) ({ cls := "java/util/ArrayDeque", name := "addLast", desc := "(Ljava/lang/Object;)V" } : Jvm.MethodName)) ∈ lw_all := lw_g (lw_at lw_m5 237 rfl) rfl
theorem q1302 : (Jvm.Cond.instanceMethod ({ cls := "DiskPacks", name := "warm", desc := "(II)I" } : Jvm.MethodName)) ∈ lw_all := lw_g (lw_at lw_m6 33 rfl) rfl
theorem q1303 : (Jvm.Cond.selects "DiskPacks" ({ cls := "DiskPacks", name := "warm", desc := "(II)I" } : Jvm.MethodName) ({ cls := "DiskPacks", name := "warm", desc := "(II)I" } : Jvm.MethodName)) ∈ lw_all := lw_g (lw_at lw_m6 34 rfl) rfl
theorem q1304 : (Jvm.Cond.code ({ cls := "DiskPacks", name := "warm", desc := "(II)I" } : Jvm.MethodName) prog_1_method_17_code (4 : Nat) (Option.some Jvm.ClassFile.FieldType.int)) ∈ lw_all := lw_g (lw_at lw_m6 35 rfl) rfl
theorem q1310 : (Jvm.Cond.instanceMethod ({ cls := "DiskPacks", name := "setServo", desc := "(IZ)Z" } : Jvm.MethodName)) ∈ lw_all := lw_g (lw_at lw_m6 41 rfl) rfl
theorem q1311 : (Jvm.Cond.selects "DiskPacks" ({ cls := "DiskPacks", name := "setServo", desc := "(IZ)Z" } : Jvm.MethodName) ({ cls := "DiskPacks", name := "setServo", desc := "(IZ)Z" } : Jvm.MethodName)) ∈ lw_all := lw_g (lw_at lw_m6 42 rfl) rfl
theorem q1312 : (Jvm.Cond.code ({ cls := "DiskPacks", name := "setServo", desc := "(IZ)Z" } : Jvm.MethodName) prog_1_method_18_code (4 : Nat) (Option.some Jvm.ClassFile.FieldType.boolean)) ∈ lw_all := lw_g (lw_at lw_m6 43 rfl) rfl
theorem q1313 : (Jvm.Cond.methodLink "DiskPacks" (119 : Nat) ({ cls := "DiskPacks", name := "checkState", desc := "(Z)V" } : Jvm.MethodName)) ∈ lw_all := lw_g (lw_at lw_m6 44 rfl) rfl
theorem q1314 : (Jvm.Cond.static ({ cls := "DiskPacks", name := "checkState", desc := "(Z)V" } : Jvm.MethodName)) ∈ lw_all := lw_g (lw_at lw_m6 45 rfl) rfl
theorem q1315 : (Jvm.Cond.code ({ cls := "DiskPacks", name := "checkState", desc := "(Z)V" } : Jvm.MethodName) prog_1_method_8_code (1 : Nat) (Option.none : Option Jvm.ClassFile.FieldType)) ∈ lw_all := lw_g (lw_at lw_m6 46 rfl) rfl
theorem q1316 : (Jvm.Cond.classLink "DiskPacks" (60 : Nat) "java/lang/IllegalStateException") ∈ lw_all := lw_g (lw_at lw_m6 47 rfl) rfl
theorem q1317 : (Jvm.Cond.methodLink "DiskPacks" (62 : Nat) ({ cls := "java/lang/IllegalStateException", name := "<init>", desc := "()V" } : Jvm.MethodName)) ∈ lw_all := lw_g (lw_at lw_m6 48 rfl) rfl
theorem q1321 : (Jvm.Cond.methodLink "DiskPacks" (150 : Nat) ({ cls := "DiskPacks$State", name := "setServo", desc := "(IZ)Z" } : Jvm.MethodName)) ∈ lw_all := lw_g (lw_at lw_m6 52 rfl) rfl
theorem q1326 : (Jvm.Cond.instanceMethod ({ cls := "DiskPacks", name := "makePack", desc := "(I)I" } : Jvm.MethodName)) ∈ lw_all := lw_g (lw_at lw_m6 57 rfl) rfl
theorem q1327 : (Jvm.Cond.selects "DiskPacks" ({ cls := "DiskPacks", name := "makePack", desc := "(I)I" } : Jvm.MethodName) ({ cls := "DiskPacks", name := "makePack", desc := "(I)I" } : Jvm.MethodName)) ∈ lw_all := lw_g (lw_at lw_m6 58 rfl) rfl
theorem q1328 : (Jvm.Cond.code ({ cls := "DiskPacks", name := "makePack", desc := "(I)I" } : Jvm.MethodName) prog_1_method_19_code (2 : Nat) (Option.some Jvm.ClassFile.FieldType.int)) ∈ lw_all := lw_g (lw_at lw_m6 59 rfl) rfl
theorem q1329 : (Jvm.Cond.methodLink "DiskPacks" (154 : Nat) ({ cls := "DiskPacks$State", name := "canMakePack", desc := "(I)Z" } : Jvm.MethodName)) ∈ lw_all := lw_g (lw_at lw_m6 60 rfl) rfl
theorem q1339 : (Jvm.Cond.methodLink "DiskPacks" (157 : Nat) ({ cls := "DiskPacks$State", name := "makePack", desc := "(I)V" } : Jvm.MethodName)) ∈ lw_all := lw_g (lw_at lw_m6 70 rfl) rfl
theorem q1353 : (Jvm.Cond.instanceMethod ({ cls := "DiskPacks", name := "mount", desc := "(II)I" } : Jvm.MethodName)) ∈ lw_all := lw_g (lw_at lw_m6 84 rfl) rfl
theorem q1354 : (Jvm.Cond.selects "DiskPacks" ({ cls := "DiskPacks", name := "mount", desc := "(II)I" } : Jvm.MethodName) ({ cls := "DiskPacks", name := "mount", desc := "(II)I" } : Jvm.MethodName)) ∈ lw_all := lw_g (lw_at lw_m6 85 rfl) rfl
theorem q1355 : (Jvm.Cond.code ({ cls := "DiskPacks", name := "mount", desc := "(II)I" } : Jvm.MethodName) prog_1_method_20_code (3 : Nat) (Option.some Jvm.ClassFile.FieldType.int)) ∈ lw_all := lw_g (lw_at lw_m6 86 rfl) rfl
theorem q1356 : (Jvm.Cond.methodLink "DiskPacks" (94 : Nat) ({ cls := "DiskPacks", name := "pack", desc := "(I)LDiskPacks$Pack;" } : Jvm.MethodName)) ∈ lw_all := lw_g (lw_at lw_m6 87 rfl) rfl
theorem q1357 : (Jvm.Cond.privateMethod ({ cls := "DiskPacks", name := "pack", desc := "(I)LDiskPacks$Pack;" } : Jvm.MethodName)) ∈ lw_tbl := lw_at lw_m6 88 rfl
theorem q1358 : (Jvm.Cond.instanceMethod ({ cls := "DiskPacks", name := "pack", desc := "(I)LDiskPacks$Pack;" } : Jvm.MethodName)) ∈ lw_all := lw_g (lw_at lw_m6 89 rfl) rfl
theorem q1359 : (Jvm.Cond.code ({ cls := "DiskPacks", name := "pack", desc := "(I)LDiskPacks$Pack;" } : Jvm.MethodName) prog_1_method_11_code (2 : Nat) (Option.some (Jvm.ClassFile.FieldType.object "DiskPacks$Pack"))) ∈ lw_all := lw_g (lw_at lw_m6 90 rfl) rfl
theorem q1360 : (Jvm.Cond.interfaceEntry "DiskPacks" (88 : Nat)) ∈ lw_tbl := lw_at lw_m6 91 rfl
theorem q1361 : (Jvm.Cond.methodLink "DiskPacks" (88 : Nat) ({ cls := "java/util/List", name := "get", desc := "(I)Ljava/lang/Object;" } : Jvm.MethodName)) ∈ lw_all := lw_g (lw_at lw_m6 92 rfl) rfl
theorem q1362 : (Jvm.Cond.classLink "DiskPacks" (92 : Nat) "DiskPacks$Pack") ∈ lw_all := lw_g (lw_at lw_m6 93 rfl) rfl
theorem q1363 : (Jvm.Cond.methodLink "DiskPacks" (161 : Nat) ({ cls := "DiskPacks$State", name := "canMount", desc := "(II)Z" } : Jvm.MethodName)) ∈ lw_all := lw_g (lw_at lw_m6 94 rfl) rfl
theorem q1364 : (Jvm.Cond.methodLink "DiskPacks" (165 : Nat) ({ cls := "DiskPacks$State", name := "mount", desc := "(II)Z" } : Jvm.MethodName)) ∈ lw_all := lw_g (lw_at lw_m6 95 rfl) rfl
theorem q1369 : (Jvm.Cond.instanceMethod ({ cls := "DiskPacks", name := "unmount", desc := "(I)I" } : Jvm.MethodName)) ∈ lw_all := lw_g (lw_at lw_m6 100 rfl) rfl
theorem q1370 : (Jvm.Cond.selects "DiskPacks" ({ cls := "DiskPacks", name := "unmount", desc := "(I)I" } : Jvm.MethodName) ({ cls := "DiskPacks", name := "unmount", desc := "(I)I" } : Jvm.MethodName)) ∈ lw_all := lw_g (lw_at lw_m6 101 rfl) rfl
theorem q1371 : (Jvm.Cond.code ({ cls := "DiskPacks", name := "unmount", desc := "(I)I" } : Jvm.MethodName) prog_1_method_21_code (3 : Nat) (Option.some Jvm.ClassFile.FieldType.int)) ∈ lw_all := lw_g (lw_at lw_m6 102 rfl) rfl
theorem q1372 : (Jvm.Cond.methodLink "DiskPacks" (174 : Nat) ({ cls := "DiskPacks$State", name := "unmount", desc := "(I)Z" } : Jvm.MethodName)) ∈ lw_all := lw_g (lw_at lw_m6 103 rfl) rfl
theorem q1377 : (Jvm.Cond.instanceMethod ({ cls := "DiskPacks", name := "seek", desc := "(II)I" } : Jvm.MethodName)) ∈ lw_all := lw_g (lw_at lw_m6 108 rfl) rfl
theorem q1378 : (Jvm.Cond.selects "DiskPacks" ({ cls := "DiskPacks", name := "seek", desc := "(II)I" } : Jvm.MethodName) ({ cls := "DiskPacks", name := "seek", desc := "(II)I" } : Jvm.MethodName)) ∈ lw_all := lw_g (lw_at lw_m6 109 rfl) rfl
theorem q1379 : (Jvm.Cond.code ({ cls := "DiskPacks", name := "seek", desc := "(II)I" } : Jvm.MethodName) prog_1_method_22_code (4 : Nat) (Option.some Jvm.ClassFile.FieldType.int)) ∈ lw_all := lw_g (lw_at lw_m6 110 rfl) rfl
theorem q1380 : (Jvm.Cond.methodLink "DiskPacks" (116 : Nat) ({ cls := "DiskPacks$State", name := "hasPack", desc := "(I)Z" } : Jvm.MethodName)) ∈ lw_all := lw_g (lw_at lw_m6 111 rfl) rfl
theorem q1381 : (Jvm.Cond.methodLink "DiskPacks" (180 : Nat) ({ cls := "DiskPacks$State", name := "seek", desc := "(II)Z" } : Jvm.MethodName)) ∈ lw_all := lw_g (lw_at lw_m6 112 rfl) rfl
theorem q1382 : (Jvm.Cond.methodLink "DiskPacks" (183 : Nat) ({ cls := "DiskPacks", name := "apart", desc := "(II)I" } : Jvm.MethodName)) ∈ lw_all := lw_g (lw_at lw_m6 113 rfl) rfl
theorem q1387 : (Jvm.Cond.instanceMethod ({ cls := "DiskPacks", name := "setTries", desc := "(I)I" } : Jvm.MethodName)) ∈ lw_all := lw_g (lw_at lw_m6 118 rfl) rfl
theorem q1388 : (Jvm.Cond.selects "DiskPacks" ({ cls := "DiskPacks", name := "setTries", desc := "(I)I" } : Jvm.MethodName) ({ cls := "DiskPacks", name := "setTries", desc := "(I)I" } : Jvm.MethodName)) ∈ lw_all := lw_g (lw_at lw_m6 119 rfl) rfl
theorem q1389 : (Jvm.Cond.code ({ cls := "DiskPacks", name := "setTries", desc := "(I)I" } : Jvm.MethodName) prog_1_method_23_code (3 : Nat) (Option.some Jvm.ClassFile.FieldType.int)) ∈ lw_all := lw_g (lw_at lw_m6 120 rfl) rfl
theorem q1394 : (Jvm.Cond.instanceMethod ({ cls := "DiskPacks", name := "forget", desc := "(II)I" } : Jvm.MethodName)) ∈ lw_all := lw_g (lw_at lw_m6 125 rfl) rfl
theorem q1395 : (Jvm.Cond.selects "DiskPacks" ({ cls := "DiskPacks", name := "forget", desc := "(II)I" } : Jvm.MethodName) ({ cls := "DiskPacks", name := "forget", desc := "(II)I" } : Jvm.MethodName)) ∈ lw_all := lw_g (lw_at lw_m6 126 rfl) rfl
theorem q1396 : (Jvm.Cond.code ({ cls := "DiskPacks", name := "forget", desc := "(II)I" } : Jvm.MethodName) prog_1_method_24_code (4 : Nat) (Option.some Jvm.ClassFile.FieldType.int)) ∈ lw_all := lw_g (lw_at lw_m6 127 rfl) rfl
theorem q1401 : (Jvm.Cond.instanceMethod ({ cls := "DiskPacks", name := "write", desc := "(III)I" } : Jvm.MethodName)) ∈ lw_all := lw_g (lw_at lw_m6 132 rfl) rfl
theorem q1402 : (Jvm.Cond.selects "DiskPacks" ({ cls := "DiskPacks", name := "write", desc := "(III)I" } : Jvm.MethodName) ({ cls := "DiskPacks", name := "write", desc := "(III)I" } : Jvm.MethodName)) ∈ lw_all := lw_g (lw_at lw_m6 133 rfl) rfl
theorem q1403 : (Jvm.Cond.code ({ cls := "DiskPacks", name := "write", desc := "(III)I" } : Jvm.MethodName) prog_1_method_25_code (4 : Nat) (Option.some Jvm.ClassFile.FieldType.int)) ∈ lw_all := lw_g (lw_at lw_m6 134 rfl) rfl
theorem q1404 : (Jvm.Cond.methodLink "DiskPacks" (113 : Nat) ({ cls := "DiskPacks", name := "checkData", desc := "(II)V" } : Jvm.MethodName)) ∈ lw_all := lw_g (lw_at lw_m6 135 rfl) rfl
theorem q1405 : (Jvm.Cond.privateMethod ({ cls := "DiskPacks", name := "checkData", desc := "(II)V" } : Jvm.MethodName)) ∈ lw_tbl := lw_at lw_m6 136 rfl
theorem q1406 : (Jvm.Cond.instanceMethod ({ cls := "DiskPacks", name := "checkData", desc := "(II)V" } : Jvm.MethodName)) ∈ lw_all := lw_g (lw_at lw_m6 137 rfl) rfl
theorem q1407 : (Jvm.Cond.code ({ cls := "DiskPacks", name := "checkData", desc := "(II)V" } : Jvm.MethodName) prog_1_method_14_code (3 : Nat) (Option.none : Option Jvm.ClassFile.FieldType)) ∈ lw_all := lw_g (lw_at lw_m6 138 rfl) rfl
theorem q1408 : (Jvm.Cond.methodLink "DiskPacks" (109 : Nat) ({ cls := "DiskPacks$Drive", name := "isData", desc := "(I)Z" } : Jvm.MethodName)) ∈ lw_all := lw_g (lw_at lw_m6 139 rfl) rfl
theorem q1413 : (Jvm.Cond.methodLink "DiskPacks" (190 : Nat) ({ cls := "DiskPacks$State", name := "write", desc := "(III)Z" } : Jvm.MethodName)) ∈ lw_all := lw_g (lw_at lw_m6 144 rfl) rfl
theorem q1414 : (Jvm.Cond.methodLink "DiskPacks" (194 : Nat) ({ cls := "DiskPacks$State", name := "surface", desc := "(II)LDiskPacks$Surface;" } : Jvm.MethodName)) ∈ lw_all := lw_g (lw_at lw_m6 145 rfl) rfl
theorem q1419 : (Jvm.Cond.instanceMethod ({ cls := "DiskPacks", name := "read", desc := "(II)I" } : Jvm.MethodName)) ∈ lw_all := lw_g (lw_at lw_m6 150 rfl) rfl
theorem q1420 : (Jvm.Cond.selects "DiskPacks" ({ cls := "DiskPacks", name := "read", desc := "(II)I" } : Jvm.MethodName) ({ cls := "DiskPacks", name := "read", desc := "(II)I" } : Jvm.MethodName)) ∈ lw_all := lw_g (lw_at lw_m6 151 rfl) rfl
theorem q1421 : (Jvm.Cond.code ({ cls := "DiskPacks", name := "read", desc := "(II)I" } : Jvm.MethodName) prog_1_method_26_code (3 : Nat) (Option.some Jvm.ClassFile.FieldType.int)) ∈ lw_all := lw_g (lw_at lw_m6 152 rfl) rfl
theorem q1422 : (Jvm.Cond.methodLink "DiskPacks" (200 : Nat) ({ cls := "DiskPacks", name := "checkReady", desc := "(II)V" } : Jvm.MethodName)) ∈ lw_all := lw_g (lw_at lw_m6 153 rfl) rfl
theorem q1423 : (Jvm.Cond.privateMethod ({ cls := "DiskPacks", name := "checkReady", desc := "(II)V" } : Jvm.MethodName)) ∈ lw_tbl := lw_at lw_m6 154 rfl
theorem q1424 : (Jvm.Cond.instanceMethod ({ cls := "DiskPacks", name := "checkReady", desc := "(II)V" } : Jvm.MethodName)) ∈ lw_all := lw_g (lw_at lw_m6 155 rfl) rfl
theorem q1425 : (Jvm.Cond.code ({ cls := "DiskPacks", name := "checkReady", desc := "(II)V" } : Jvm.MethodName) prog_1_method_15_code (3 : Nat) (Option.none : Option Jvm.ClassFile.FieldType)) ∈ lw_all := lw_g (lw_at lw_m6 156 rfl) rfl
theorem q1426 : (Jvm.Cond.methodLink "DiskPacks" (203 : Nat) ({ cls := "DiskPacks$State", name := "read", desc := "(II)I" } : Jvm.MethodName)) ∈ lw_all := lw_g (lw_at lw_m6 157 rfl) rfl
theorem q1431 : (Jvm.Cond.instanceMethod ({ cls := "DiskPacks", name := "strike", desc := "(II)Z" } : Jvm.MethodName)) ∈ lw_all := lw_g (lw_at lw_m6 162 rfl) rfl
theorem q1432 : (Jvm.Cond.selects "DiskPacks" ({ cls := "DiskPacks", name := "strike", desc := "(II)Z" } : Jvm.MethodName) ({ cls := "DiskPacks", name := "strike", desc := "(II)Z" } : Jvm.MethodName)) ∈ lw_all := lw_g (lw_at lw_m6 163 rfl) rfl
theorem q1433 : (Jvm.Cond.code ({ cls := "DiskPacks", name := "strike", desc := "(II)Z" } : Jvm.MethodName) prog_1_method_27_code (4 : Nat) (Option.some Jvm.ClassFile.FieldType.boolean)) ∈ lw_all := lw_g (lw_at lw_m6 164 rfl) rfl
theorem q1434 : (Jvm.Cond.methodLink "DiskPacks" (206 : Nat) ({ cls := "DiskPacks$State", name := "strike", desc := "(II)V" } : Jvm.MethodName)) ∈ lw_all := lw_g (lw_at lw_m6 165 rfl) rfl
theorem q1443 : (Jvm.Cond.instanceMethod ({ cls := "DiskPacks", name := "mend", desc := "(II)I" } : Jvm.MethodName)) ∈ lw_all := lw_g (lw_at lw_m6 174 rfl) rfl
theorem q1444 : (Jvm.Cond.selects "DiskPacks" ({ cls := "DiskPacks", name := "mend", desc := "(II)I" } : Jvm.MethodName) ({ cls := "DiskPacks", name := "mend", desc := "(II)I" } : Jvm.MethodName)) ∈ lw_all := lw_g (lw_at lw_m6 175 rfl) rfl
theorem q1445 : (Jvm.Cond.code ({ cls := "DiskPacks", name := "mend", desc := "(II)I" } : Jvm.MethodName) prog_1_method_28_code (4 : Nat) (Option.some Jvm.ClassFile.FieldType.int)) ∈ lw_all := lw_g (lw_at lw_m6 176 rfl) rfl
theorem q1446 : (Jvm.Cond.methodLink "DiskPacks" (209 : Nat) ({ cls := "DiskPacks$State", name := "mend", desc := "(II)Z" } : Jvm.MethodName)) ∈ lw_all := lw_g (lw_at lw_m6 177 rfl) rfl
theorem q1451 : (Jvm.Cond.instanceMethod ({ cls := "DiskPacks", name := "polish", desc := "(I)I" } : Jvm.MethodName)) ∈ lw_all := lw_g (lw_at lw_m6 182 rfl) rfl
theorem q1452 : (Jvm.Cond.selects "DiskPacks" ({ cls := "DiskPacks", name := "polish", desc := "(I)I" } : Jvm.MethodName) ({ cls := "DiskPacks", name := "polish", desc := "(I)I" } : Jvm.MethodName)) ∈ lw_all := lw_g (lw_at lw_m6 183 rfl) rfl
theorem q1453 : (Jvm.Cond.code ({ cls := "DiskPacks", name := "polish", desc := "(I)I" } : Jvm.MethodName) prog_1_method_29_code (2 : Nat) (Option.some Jvm.ClassFile.FieldType.int)) ∈ lw_all := lw_g (lw_at lw_m6 184 rfl) rfl
theorem q1454 : (Jvm.Cond.methodLink "DiskPacks" (214 : Nat) ({ cls := "DiskPacks$Pack", name := "polish", desc := "()I" } : Jvm.MethodName)) ∈ lw_all := lw_g (lw_at lw_m6 185 rfl) rfl
theorem q1459 : (Jvm.Cond.instanceMethod ({ cls := "DiskPacks", name := "offsetOf", desc := "(II)I" } : Jvm.MethodName)) ∈ lw_all := lw_g (lw_at lw_m6 190 rfl) rfl
theorem q1460 : (Jvm.Cond.selects "DiskPacks" ({ cls := "DiskPacks", name := "offsetOf", desc := "(II)I" } : Jvm.MethodName) ({ cls := "DiskPacks", name := "offsetOf", desc := "(II)I" } : Jvm.MethodName)) ∈ lw_all := lw_g (lw_at lw_m6 191 rfl) rfl
theorem q1461 : (Jvm.Cond.code ({ cls := "DiskPacks", name := "offsetOf", desc := "(II)I" } : Jvm.MethodName) prog_1_method_30_code (3 : Nat) (Option.some Jvm.ClassFile.FieldType.int)) ∈ lw_all := lw_g (lw_at lw_m6 192 rfl) rfl
theorem q1466 : (Jvm.Cond.instanceMethod ({ cls := "DiskPacks", name := "isStruck", desc := "(II)Z" } : Jvm.MethodName)) ∈ lw_all := lw_g (lw_at lw_m6 197 rfl) rfl
theorem q1467 : (Jvm.Cond.selects "DiskPacks" ({ cls := "DiskPacks", name := "isStruck", desc := "(II)Z" } : Jvm.MethodName) ({ cls := "DiskPacks", name := "isStruck", desc := "(II)Z" } : Jvm.MethodName)) ∈ lw_all := lw_g (lw_at lw_m6 198 rfl) rfl
theorem q1468 : (Jvm.Cond.code ({ cls := "DiskPacks", name := "isStruck", desc := "(II)Z" } : Jvm.MethodName) prog_1_method_31_code (3 : Nat) (Option.some Jvm.ClassFile.FieldType.boolean)) ∈ lw_all := lw_g (lw_at lw_m6 199 rfl) rfl
theorem q1473 : (Jvm.Cond.instanceMethod ({ cls := "DiskPacks", name := "badPassesOf", desc := "(II)I" } : Jvm.MethodName)) ∈ lw_all := lw_g (lw_at lw_m6 204 rfl) rfl
theorem q1474 : (Jvm.Cond.selects "DiskPacks" ({ cls := "DiskPacks", name := "badPassesOf", desc := "(II)I" } : Jvm.MethodName) ({ cls := "DiskPacks", name := "badPassesOf", desc := "(II)I" } : Jvm.MethodName)) ∈ lw_all := lw_g (lw_at lw_m6 205 rfl) rfl
theorem q1475 : (Jvm.Cond.code ({ cls := "DiskPacks", name := "badPassesOf", desc := "(II)I" } : Jvm.MethodName) prog_1_method_32_code (3 : Nat) (Option.some Jvm.ClassFile.FieldType.int)) ∈ lw_all := lw_g (lw_at lw_m6 206 rfl) rfl
theorem q1480 : (Jvm.Cond.instanceMethod ({ cls := "DiskPacks", name := "warmthOf", desc := "(I)I" } : Jvm.MethodName)) ∈ lw_all := lw_g (lw_at lw_m6 211 rfl) rfl
theorem q1481 : (Jvm.Cond.selects "DiskPacks" ({ cls := "DiskPacks", name := "warmthOf", desc := "(I)I" } : Jvm.MethodName) ({ cls := "DiskPacks", name := "warmthOf", desc := "(I)I" } : Jvm.MethodName)) ∈ lw_all := lw_g (lw_at lw_m6 212 rfl) rfl
theorem q1482 : (Jvm.Cond.code ({ cls := "DiskPacks", name := "warmthOf", desc := "(I)I" } : Jvm.MethodName) prog_1_method_33_code (2 : Nat) (Option.some Jvm.ClassFile.FieldType.int)) ∈ lw_all := lw_g (lw_at lw_m6 213 rfl) rfl
theorem q1487 : (Jvm.Cond.instanceMethod ({ cls := "DiskPacks", name := "cylinderOf", desc := "(I)I" } : Jvm.MethodName)) ∈ lw_all := lw_g (lw_at lw_m6 218 rfl) rfl
theorem q1488 : (Jvm.Cond.selects "DiskPacks" ({ cls := "DiskPacks", name := "cylinderOf", desc := "(I)I" } : Jvm.MethodName) ({ cls := "DiskPacks", name := "cylinderOf", desc := "(I)I" } : Jvm.MethodName)) ∈ lw_all := lw_g (lw_at lw_m6 219 rfl) rfl
theorem q1489 : (Jvm.Cond.code ({ cls := "DiskPacks", name := "cylinderOf", desc := "(I)I" } : Jvm.MethodName) prog_1_method_34_code (2 : Nat) (Option.some Jvm.ClassFile.FieldType.int)) ∈ lw_all := lw_g (lw_at lw_m6 220 rfl) rfl
theorem q1494 : (Jvm.Cond.instanceMethod ({ cls := "DiskPacks", name := "packIn", desc := "(I)I" } : Jvm.MethodName)) ∈ lw_all := lw_g (lw_at lw_m6 225 rfl) rfl
theorem q1495 : (Jvm.Cond.selects "DiskPacks" ({ cls := "DiskPacks", name := "packIn", desc := "(I)I" } : Jvm.MethodName) ({ cls := "DiskPacks", name := "packIn", desc := "(I)I" } : Jvm.MethodName)) ∈ lw_all := lw_g (lw_at lw_m6 226 rfl) rfl
theorem q1496 : (Jvm.Cond.code ({ cls := "DiskPacks", name := "packIn", desc := "(I)I" } : Jvm.MethodName) prog_1_method_35_code (2 : Nat) (Option.some Jvm.ClassFile.FieldType.int)) ∈ lw_all := lw_g (lw_at lw_m6 227 rfl) rfl
theorem q1501 : (Jvm.Cond.instanceMethod ({ cls := "DiskPacks", name := "learned", desc := "(II)I" } : Jvm.MethodName)) ∈ lw_all := lw_g (lw_at lw_m6 232 rfl) rfl
theorem q1502 : (Jvm.Cond.selects "DiskPacks" ({ cls := "DiskPacks", name := "learned", desc := "(II)I" } : Jvm.MethodName) ({ cls := "DiskPacks", name := "learned", desc := "(II)I" } : Jvm.MethodName)) ∈ lw_all := lw_g (lw_at lw_m6 233 rfl) rfl
theorem q1503 : (Jvm.Cond.code ({ cls := "DiskPacks", name := "learned", desc := "(II)I" } : Jvm.MethodName) prog_1_method_36_code (3 : Nat) (Option.some Jvm.ClassFile.FieldType.int)) ∈ lw_all := lw_g (lw_at lw_m6 234 rfl) rfl
theorem q1508 : (Jvm.Cond.instanceMethod ({ cls := "DiskPacks", name := "placeOf", desc := "(II)I" } : Jvm.MethodName)) ∈ lw_all := lw_g (lw_at lw_m6 239 rfl) rfl
theorem q1509 : (Jvm.Cond.selects "DiskPacks" ({ cls := "DiskPacks", name := "placeOf", desc := "(II)I" } : Jvm.MethodName) ({ cls := "DiskPacks", name := "placeOf", desc := "(II)I" } : Jvm.MethodName)) ∈ lw_all := lw_g (lw_at lw_m7 0 rfl) rfl
theorem q1510 : (Jvm.Cond.code ({ cls := "DiskPacks", name := "placeOf", desc := "(II)I" } : Jvm.MethodName) prog_1_method_37_code (3 : Nat) (Option.some Jvm.ClassFile.FieldType.int)) ∈ lw_all := lw_g (lw_at lw_m7 1 rfl) rfl
theorem q1511 : (Jvm.Cond.methodLink "DiskPacks" (220 : Nat) ({ cls := "DiskPacks$State", name := "place", desc := "(II)I" } : Jvm.MethodName)) ∈ lw_all := lw_g (lw_at lw_m7 2 rfl) rfl
theorem q1516 : (Jvm.Cond.instanceMethod ({ cls := "DiskPacks", name := "driveOf", desc := "(I)I" } : Jvm.MethodName)) ∈ lw_all := lw_g (lw_at lw_m7 7 rfl) rfl
theorem q1517 : (Jvm.Cond.selects "DiskPacks" ({ cls := "DiskPacks", name := "driveOf", desc := "(I)I" } : Jvm.MethodName) ({ cls := "DiskPacks", name := "driveOf", desc := "(I)I" } : Jvm.MethodName)) ∈ lw_all := lw_g (lw_at lw_m7 8 rfl) rfl
theorem q1518 : (Jvm.Cond.code ({ cls := "DiskPacks", name := "driveOf", desc := "(I)I" } : Jvm.MethodName) prog_1_method_39_code (2 : Nat) (Option.some Jvm.ClassFile.FieldType.int)) ∈ lw_all := lw_g (lw_at lw_m7 9 rfl) rfl
theorem q1523 : (Jvm.Cond.instanceMethod ({ cls := "DiskPacks", name := "baseOf", desc := "(I)I" } : Jvm.MethodName)) ∈ lw_all := lw_g (lw_at lw_m7 14 rfl) rfl
theorem q1524 : (Jvm.Cond.selects "DiskPacks" ({ cls := "DiskPacks", name := "baseOf", desc := "(I)I" } : Jvm.MethodName) ({ cls := "DiskPacks", name := "baseOf", desc := "(I)I" } : Jvm.MethodName)) ∈ lw_all := lw_g (lw_at lw_m7 15 rfl) rfl
theorem q1525 : (Jvm.Cond.code ({ cls := "DiskPacks", name := "baseOf", desc := "(I)I" } : Jvm.MethodName) prog_1_method_40_code (2 : Nat) (Option.some Jvm.ClassFile.FieldType.int)) ∈ lw_all := lw_g (lw_at lw_m7 16 rfl) rfl
theorem q1530 : (Jvm.Cond.instanceMethod ({ cls := "DiskPacks", name := "isScratched", desc := "(II)Z" } : Jvm.MethodName)) ∈ lw_all := lw_g (lw_at lw_m7 21 rfl) rfl
theorem q1531 : (Jvm.Cond.selects "DiskPacks" ({ cls := "DiskPacks", name := "isScratched", desc := "(II)Z" } : Jvm.MethodName) ({ cls := "DiskPacks", name := "isScratched", desc := "(II)Z" } : Jvm.MethodName)) ∈ lw_all := lw_g (lw_at lw_m7 22 rfl) rfl
theorem q1532 : (Jvm.Cond.code ({ cls := "DiskPacks", name := "isScratched", desc := "(II)Z" } : Jvm.MethodName) prog_1_method_41_code (3 : Nat) (Option.some Jvm.ClassFile.FieldType.boolean)) ∈ lw_all := lw_g (lw_at lw_m7 23 rfl) rfl
theorem q1533 : (Jvm.Cond.methodLink "DiskPacks" (102 : Nat) ({ cls := "DiskPacks", name := "surface", desc := "(II)LDiskPacks$Surface;" } : Jvm.MethodName)) ∈ lw_all := lw_g (lw_at lw_m7 24 rfl) rfl
theorem q1534 : (Jvm.Cond.privateMethod ({ cls := "DiskPacks", name := "surface", desc := "(II)LDiskPacks$Surface;" } : Jvm.MethodName)) ∈ lw_tbl := lw_at lw_m7 25 rfl
theorem q1535 : (Jvm.Cond.instanceMethod ({ cls := "DiskPacks", name := "surface", desc := "(II)LDiskPacks$Surface;" } : Jvm.MethodName)) ∈ lw_all := lw_g (lw_at lw_m7 26 rfl) rfl
theorem q1536 : (Jvm.Cond.code ({ cls := "DiskPacks", name := "surface", desc := "(II)LDiskPacks$Surface;" } : Jvm.MethodName) prog_1_method_12_code (4 : Nat) (Option.some (Jvm.ClassFile.FieldType.object "DiskPacks$Surface"))) ∈ lw_all := lw_g (lw_at lw_m7 27 rfl) rfl
theorem q1541 : (Jvm.Cond.instanceMethod ({ cls := "DiskPacks", name := "valueOf", desc := "(III)I" } : Jvm.MethodName)) ∈ lw_all := lw_g (lw_at lw_m7 32 rfl) rfl
theorem q1542 : (Jvm.Cond.selects "DiskPacks" ({ cls := "DiskPacks", name := "valueOf", desc := "(III)I" } : Jvm.MethodName) ({ cls := "DiskPacks", name := "valueOf", desc := "(III)I" } : Jvm.MethodName)) ∈ lw_all := lw_g (lw_at lw_m7 33 rfl) rfl
theorem q1543 : (Jvm.Cond.code ({ cls := "DiskPacks", name := "valueOf", desc := "(III)I" } : Jvm.MethodName) prog_1_method_42_code (4 : Nat) (Option.some Jvm.ClassFile.FieldType.int)) ∈ lw_all := lw_g (lw_at lw_m7 34 rfl) rfl
theorem q1544 : (Jvm.Cond.methodLink "DiskPacks" (229 : Nat) ({ cls := "DiskPacks", name := "track", desc := "(III)LDiskPacks$Surface;" } : Jvm.MethodName)) ∈ lw_all := lw_g (lw_at lw_m7 35 rfl) rfl
theorem q1545 : (Jvm.Cond.privateMethod ({ cls := "DiskPacks", name := "track", desc := "(III)LDiskPacks$Surface;" } : Jvm.MethodName)) ∈ lw_tbl := lw_at lw_m7 36 rfl
theorem q1546 : (Jvm.Cond.instanceMethod ({ cls := "DiskPacks", name := "track", desc := "(III)LDiskPacks$Surface;" } : Jvm.MethodName)) ∈ lw_all := lw_g (lw_at lw_m7 37 rfl) rfl
theorem q1547 : (Jvm.Cond.code ({ cls := "DiskPacks", name := "track", desc := "(III)LDiskPacks$Surface;" } : Jvm.MethodName) prog_1_method_13_code (5 : Nat) (Option.some (Jvm.ClassFile.FieldType.object "DiskPacks$Surface"))) ∈ lw_all := lw_g (lw_at lw_m7 38 rfl) rfl
theorem q1552 : (Jvm.Cond.instanceMethod ({ cls := "DiskPacks", name := "positionOf", desc := "(III)I" } : Jvm.MethodName)) ∈ lw_all := lw_g (lw_at lw_m7 43 rfl) rfl
theorem q1553 : (Jvm.Cond.selects "DiskPacks" ({ cls := "DiskPacks", name := "positionOf", desc := "(III)I" } : Jvm.MethodName) ({ cls := "DiskPacks", name := "positionOf", desc := "(III)I" } : Jvm.MethodName)) ∈ lw_all := lw_g (lw_at lw_m7 44 rfl) rfl
theorem q1554 : (Jvm.Cond.code ({ cls := "DiskPacks", name := "positionOf", desc := "(III)I" } : Jvm.MethodName) prog_1_method_43_code (5 : Nat) (Option.some Jvm.ClassFile.FieldType.int)) ∈ lw_all := lw_g (lw_at lw_m7 45 rfl) rfl
theorem q1555 : (Jvm.Cond.methodLink "DiskPacks" (236 : Nat) ({ cls := "DiskPacks$Surface", name := "isEmpty", desc := "(I)Z" } : Jvm.MethodName)) ∈ lw_all := lw_g (lw_at lw_m7 46 rfl) rfl
theorem q1560 : (Jvm.Cond.instanceMethod ({ cls := "DiskPacks", name := "strengthOf", desc := "(III)F" } : Jvm.MethodName)) ∈ lw_all := lw_g (lw_at lw_m7 51 rfl) rfl
theorem q1561 : (Jvm.Cond.selects "DiskPacks" ({ cls := "DiskPacks", name := "strengthOf", desc := "(III)F" } : Jvm.MethodName) ({ cls := "DiskPacks", name := "strengthOf", desc := "(III)F" } : Jvm.MethodName)) ∈ lw_all := lw_g (lw_at lw_m7 52 rfl) rfl
theorem q1562 : (Jvm.Cond.code ({ cls := "DiskPacks", name := "strengthOf", desc := "(III)F" } : Jvm.MethodName) prog_1_method_44_code (4 : Nat) (Option.some Jvm.ClassFile.FieldType.float)) ∈ lw_all := lw_g (lw_at lw_m7 53 rfl) rfl
theorem q1567 : (Jvm.Cond.instanceMethod ({ cls := "DiskPacks", name := "writtenOn", desc := "(I)I" } : Jvm.MethodName)) ∈ lw_all := lw_g (lw_at lw_m7 58 rfl) rfl
theorem q1568 : (Jvm.Cond.selects "DiskPacks" ({ cls := "DiskPacks", name := "writtenOn", desc := "(I)I" } : Jvm.MethodName) ({ cls := "DiskPacks", name := "writtenOn", desc := "(I)I" } : Jvm.MethodName)) ∈ lw_all := lw_g (lw_at lw_m7 59 rfl) rfl
theorem q1569 : (Jvm.Cond.code ({ cls := "DiskPacks", name := "writtenOn", desc := "(I)I" } : Jvm.MethodName) prog_1_method_45_code (6 : Nat) (Option.some Jvm.ClassFile.FieldType.int)) ∈ lw_all := lw_g (lw_at lw_m7 60 rfl) rfl
theorem q1574 : (Jvm.Cond.instanceMethod ({ cls := "DiskPacks", name := "signal", desc := "(III)F" } : Jvm.MethodName)) ∈ lw_all := lw_g (lw_at lw_m7 65 rfl) rfl
theorem q1575 : (Jvm.Cond.selects "DiskPacks" ({ cls := "DiskPacks", name := "signal", desc := "(III)F" } : Jvm.MethodName) ({ cls := "DiskPacks", name := "signal", desc := "(III)F" } : Jvm.MethodName)) ∈ lw_all := lw_g (lw_at lw_m7 66 rfl) rfl
theorem q1576 : (Jvm.Cond.code ({ cls := "DiskPacks", name := "signal", desc := "(III)F" } : Jvm.MethodName) prog_1_method_46_code (4 : Nat) (Option.some Jvm.ClassFile.FieldType.float)) ∈ lw_all := lw_g (lw_at lw_m7 67 rfl) rfl
theorem q1577 : (Jvm.Cond.methodLink "DiskPacks" (243 : Nat) ({ cls := "DiskPacks$State", name := "signalAt", desc := "(III)F" } : Jvm.MethodName)) ∈ lw_all := lw_g (lw_at lw_m7 68 rfl) rfl
theorem q1585 : (Jvm.Cond.instanceMethod ({ cls := "DiskPacks", name := "signalBits", desc := "(III)I" } : Jvm.MethodName)) ∈ lw_all := lw_g (lw_at lw_m7 76 rfl) rfl
theorem q1586 : (Jvm.Cond.selects "DiskPacks" ({ cls := "DiskPacks", name := "signalBits", desc := "(III)I" } : Jvm.MethodName) ({ cls := "DiskPacks", name := "signalBits", desc := "(III)I" } : Jvm.MethodName)) ∈ lw_all := lw_g (lw_at lw_m7 77 rfl) rfl
theorem q1587 : (Jvm.Cond.code ({ cls := "DiskPacks", name := "signalBits", desc := "(III)I" } : Jvm.MethodName) prog_1_method_47_code (4 : Nat) (Option.some Jvm.ClassFile.FieldType.int)) ∈ lw_all := lw_g (lw_at lw_m7 78 rfl) rfl
theorem q1588 : (Jvm.Cond.methodLink "DiskPacks" (247 : Nat) ({ cls := "java/lang/Float", name := "floatToIntBits", desc := "(F)I" } : Jvm.MethodName)) ∈ lw_all := lw_g (lw_at lw_m7 79 rfl) rfl
theorem q1602 : (Jvm.Cond.instanceMethod ({ cls := "DiskPacks", name := "gap", desc := "(II)I" } : Jvm.MethodName)) ∈ lw_all := lw_g (lw_at lw_m7 93 rfl) rfl
theorem q1603 : (Jvm.Cond.selects "DiskPacks" ({ cls := "DiskPacks", name := "gap", desc := "(II)I" } : Jvm.MethodName) ({ cls := "DiskPacks", name := "gap", desc := "(II)I" } : Jvm.MethodName)) ∈ lw_all := lw_g (lw_at lw_m7 94 rfl) rfl
theorem q1604 : (Jvm.Cond.code ({ cls := "DiskPacks", name := "gap", desc := "(II)I" } : Jvm.MethodName) prog_1_method_48_code (5 : Nat) (Option.some Jvm.ClassFile.FieldType.int)) ∈ lw_all := lw_g (lw_at lw_m7 95 rfl) rfl
theorem q1609 : (Jvm.Cond.instanceMethod ({ cls := "DiskPacks", name := "retriesByTrying", desc := "(II)I" } : Jvm.MethodName)) ∈ lw_all := lw_g (lw_at lw_m7 100 rfl) rfl
theorem q1610 : (Jvm.Cond.selects "DiskPacks" ({ cls := "DiskPacks", name := "retriesByTrying", desc := "(II)I" } : Jvm.MethodName) ({ cls := "DiskPacks", name := "retriesByTrying", desc := "(II)I" } : Jvm.MethodName)) ∈ lw_all := lw_g (lw_at lw_m7 101 rfl) rfl
theorem q1611 : (Jvm.Cond.code ({ cls := "DiskPacks", name := "retriesByTrying", desc := "(II)I" } : Jvm.MethodName) prog_1_method_49_code (3 : Nat) (Option.some Jvm.ClassFile.FieldType.int)) ∈ lw_all := lw_g (lw_at lw_m7 102 rfl) rfl
theorem q1612 : (Jvm.Cond.methodLink "DiskPacks" (253 : Nat) ({ cls := "DiskPacks$State", name := "retries", desc := "(II)I" } : Jvm.MethodName)) ∈ lw_all := lw_g (lw_at lw_m7 103 rfl) rfl
theorem q1617 : (Jvm.Cond.instanceMethod ({ cls := "DiskPacks", name := "retriesByGap", desc := "(II)I" } : Jvm.MethodName)) ∈ lw_all := lw_g (lw_at lw_m7 108 rfl) rfl
theorem q1618 : (Jvm.Cond.selects "DiskPacks" ({ cls := "DiskPacks", name := "retriesByGap", desc := "(II)I" } : Jvm.MethodName) ({ cls := "DiskPacks", name := "retriesByGap", desc := "(II)I" } : Jvm.MethodName)) ∈ lw_all := lw_g (lw_at lw_m7 109 rfl) rfl
theorem q1619 : (Jvm.Cond.code ({ cls := "DiskPacks", name := "retriesByGap", desc := "(II)I" } : Jvm.MethodName) prog_1_method_50_code (3 : Nat) (Option.some Jvm.ClassFile.FieldType.int)) ∈ lw_all := lw_g (lw_at lw_m7 110 rfl) rfl
theorem q1620 : (Jvm.Cond.methodLink "DiskPacks" (256 : Nat) ({ cls := "DiskPacks$State", name := "retriesByGap", desc := "(II)I" } : Jvm.MethodName)) ∈ lw_all := lw_g (lw_at lw_m7 111 rfl) rfl
theorem q1631 : (Jvm.Cond.instanceMethod ({ cls := "DiskPacks", name := "readableBy", desc := "(III)I" } : Jvm.MethodName)) ∈ lw_all := lw_g (lw_at lw_m7 122 rfl) rfl
theorem q1632 : (Jvm.Cond.selects "DiskPacks" ({ cls := "DiskPacks", name := "readableBy", desc := "(III)I" } : Jvm.MethodName) ({ cls := "DiskPacks", name := "readableBy", desc := "(III)I" } : Jvm.MethodName)) ∈ lw_all := lw_g (lw_at lw_m7 123 rfl) rfl
theorem q1633 : (Jvm.Cond.code ({ cls := "DiskPacks", name := "readableBy", desc := "(III)I" } : Jvm.MethodName) prog_1_method_51_code (6 : Nat) (Option.some Jvm.ClassFile.FieldType.int)) ∈ lw_all := lw_g (lw_at lw_m7 124 rfl) rfl
theorem q1634 : (Jvm.Cond.methodLink "DiskPacks" (259 : Nat) ({ cls := "DiskPacks$State", name := "retries", desc := "(IIII)I" } : Jvm.MethodName)) ∈ lw_all := lw_g (lw_at lw_m7 125 rfl) rfl
theorem q1639 : (Jvm.Cond.instanceMethod ({ cls := "DiskPacks", name := "readableIn", desc := "(II)I" } : Jvm.MethodName)) ∈ lw_all := lw_g (lw_at lw_m7 130 rfl) rfl
theorem q1640 : (Jvm.Cond.selects "DiskPacks" ({ cls := "DiskPacks", name := "readableIn", desc := "(II)I" } : Jvm.MethodName) ({ cls := "DiskPacks", name := "readableIn", desc := "(II)I" } : Jvm.MethodName)) ∈ lw_all := lw_g (lw_at lw_m7 131 rfl) rfl
theorem q1641 : (Jvm.Cond.code ({ cls := "DiskPacks", name := "readableIn", desc := "(II)I" } : Jvm.MethodName) prog_1_method_52_code (3 : Nat) (Option.some Jvm.ClassFile.FieldType.int)) ∈ lw_all := lw_g (lw_at lw_m7 132 rfl) rfl
theorem q1642 : (Jvm.Cond.methodLink "DiskPacks" (262 : Nat) ({ cls := "DiskPacks$State", name := "readableIn", desc := "(II)I" } : Jvm.MethodName)) ∈ lw_all := lw_g (lw_at lw_m7 133 rfl) rfl
theorem q1650 : (Jvm.Cond.instanceMethod ({ cls := "DiskPacks", name := "append", desc := "(I)I" } : Jvm.MethodName)) ∈ lw_all := lw_g (lw_at lw_m7 141 rfl) rfl
theorem q1651 : (Jvm.Cond.selects "DiskPacks" ({ cls := "DiskPacks", name := "append", desc := "(I)I" } : Jvm.MethodName) ({ cls := "DiskPacks", name := "append", desc := "(I)I" } : Jvm.MethodName)) ∈ lw_all := lw_g (lw_at lw_m7 142 rfl) rfl
theorem q1652 : (Jvm.Cond.code ({ cls := "DiskPacks", name := "append", desc := "(I)I" } : Jvm.MethodName) prog_1_method_59_code (2 : Nat) (Option.some Jvm.ClassFile.FieldType.int)) ∈ lw_all := lw_g (lw_at lw_m7 143 rfl) rfl
theorem q1653 : (Jvm.Cond.methodLink "DiskPacks" (284 : Nat) ({ cls := "java/lang/StringBuilder", name := "append", desc := "(C)Ljava/lang/StringBuilder;" } : Jvm.MethodName)) ∈ lw_all := lw_g (lw_at lw_m7 144 rfl) rfl
theorem q1674 : (Jvm.Cond.instanceMethod ({ cls := "DiskPacks", name := "runText", desc := "()I" } : Jvm.MethodName)) ∈ lw_all := lw_g (lw_at lw_m7 165 rfl) rfl
theorem q1675 : (Jvm.Cond.selects "DiskPacks" ({ cls := "DiskPacks", name := "runText", desc := "()I" } : Jvm.MethodName) ({ cls := "DiskPacks", name := "runText", desc := "()I" } : Jvm.MethodName)) ∈ lw_all := lw_g (lw_at lw_m7 166 rfl) rfl
theorem q1676 : (Jvm.Cond.code ({ cls := "DiskPacks", name := "runText", desc := "()I" } : Jvm.MethodName) prog_1_method_62_code (2 : Nat) (Option.some Jvm.ClassFile.FieldType.int)) ∈ lw_all := lw_g (lw_at lw_m7 167 rfl) rfl
theorem q1677 : (Jvm.Cond.methodLink "DiskPacks" (301 : Nat) ({ cls := "DiskPacks$TextReader", name := "carryOut", desc := "(LDiskPacks$State;)I" } : Jvm.MethodName)) ∈ lw_all := lw_g (lw_at lw_m7 168 rfl) rfl
theorem q1689 : (Jvm.Cond.instanceMethod ({ cls := "DiskPacks", name := "undo", desc := "()I" } : Jvm.MethodName)) ∈ lw_all := lw_g (lw_at lw_m7 180 rfl) rfl
theorem q1690 : (Jvm.Cond.selects "DiskPacks" ({ cls := "DiskPacks", name := "undo", desc := "()I" } : Jvm.MethodName) ({ cls := "DiskPacks", name := "undo", desc := "()I" } : Jvm.MethodName)) ∈ lw_all := lw_g (lw_at lw_m7 181 rfl) rfl
theorem q1691 : (Jvm.Cond.code ({ cls := "DiskPacks", name := "undo", desc := "()I" } : Jvm.MethodName) prog_1_method_63_code (1 : Nat) (Option.some Jvm.ClassFile.FieldType.int)) ∈ lw_all := lw_g (lw_at lw_m7 182 rfl) rfl
theorem q1692 : (Jvm.Cond.methodLink "DiskPacks" (305 : Nat) ({ cls := "java/util/ArrayDeque", name := "isEmpty", desc := "()Z" } : Jvm.MethodName)) ∈ lw_all := lw_g (lw_at lw_m7 183 rfl) rfl
theorem q1696 : (Jvm.Cond.methodLink "DiskPacks" (307 : Nat) ({ cls := "java/util/ArrayDeque", name := "removeLast", desc := "()Ljava/lang/Object;" } : Jvm.MethodName)) ∈ lw_all := lw_g (lw_at lw_m7 187 rfl) rfl
theorem q1711 : (Jvm.Cond.instanceMethod ({ cls := "DiskPacks", name := "restoreSnapshot", desc := "()I" } : Jvm.MethodName)) ∈ lw_all := lw_g (lw_at lw_m7 202 rfl) rfl
theorem q1712 : (Jvm.Cond.selects "DiskPacks" ({ cls := "DiskPacks", name := "restoreSnapshot", desc := "()I" } : Jvm.MethodName) ({ cls := "DiskPacks", name := "restoreSnapshot", desc := "()I" } : Jvm.MethodName)) ∈ lw_all := lw_g (lw_at lw_m7 203 rfl) rfl
theorem q1713 : (Jvm.Cond.code ({ cls := "DiskPacks", name := "restoreSnapshot", desc := "()I" } : Jvm.MethodName) prog_1_method_66_code (1 : Nat) (Option.some Jvm.ClassFile.FieldType.int)) ∈ lw_all := lw_g (lw_at lw_m7 204 rfl) rfl
theorem q2171 : (Jvm.Cond.castable "DiskPacks" "java/lang/Object") ∈ lw_tbl := lw_at lw_m9 182 rfl
theorem in_X1 : ∀ w ∈ wsX10, w ∈ lw_all := lw_in wsX10 [390, 392, 394, 396] (by decide +kernel) (by decide +kernel)
