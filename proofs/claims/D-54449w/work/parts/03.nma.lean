/-! DiskPacks$Pack -/
set_option maxRecDepth 100000
def RX8 : String := "DiskPacks$Pack"
def TX8 : u_T := fun k => match k with
  | 0 => ("DiskPacks$Pack", "base", "I", true)
  | 1 => ("DiskPacks$Pack", "surfaces", "[LDiskPacks$Surface;", true)
  | _ => ("DiskPacks$Pack", "drive", "I", false)
def tyX8 : Nat → FieldType := fun k => match k with
  | 0 => .int
  | 1 => .array (.object "DiskPacks$Surface")
  | _ => .int
abbrev wsX80 : List Cond := u_ws RX8 TX8 3
theorem nmX8 : ∀ a, a < 3 → ∀ b, b < 3 → a ≠ b → (TX8 a).2.1 ≠ (TX8 b).2.1 := by decide +kernel
theorem tyX8_ok : ∀ k, k < 3 → parseFieldDescriptor (TX8 k).2.2.1 = some (tyX8 k) := by decide +kernel
abbrev cX8_polish : ByteArray := prog_6_method_4_code
def yX8_polish : MethodName := ⟨RX8, "polish", "()I"⟩
def dkwX8_polish_2 : List UInt8 := [132, 4, 1, 167, 255, 240, 132, 2, 1, 167, 255, 204, 27, 172]
abbrev dktX8_polish_2 : List UInt8 := dkwX8_polish_2 ++ []
def dkwX8_polish_1 : List UInt8 := [3, 181, 0, 32, 132, 1, 1, 3, 54, 4, 21, 4, 16, 40, 162, 0, 15, 45, 21, 4, 182, 0, 36]
abbrev dktX8_polish_1 : List UInt8 := dkwX8_polish_1 ++ dktX8_polish_2
def dkwX8_polish_0 : List UInt8 := [3, 60, 3, 61, 28, 6, 162, 0, 53, 42, 180, 0, 11, 28, 50, 78, 45, 180, 0, 32, 153, 0, 33, 45]
abbrev dktX8_polish_0 : List UInt8 := dkwX8_polish_0 ++ dktX8_polish_1
theorem dksX8_polish_0 : cX8_polish.data.toList.drop 0 = dktX8_polish_0 := by decide +kernel
theorem dksX8_polish_1 : cX8_polish.data.toList.drop 24 = dktX8_polish_1 := dk_seg dksX8_polish_0 24 rfl rfl
theorem dksX8_polish_2 : cX8_polish.data.toList.drop 47 = dktX8_polish_2 := dk_seg dksX8_polish_1 23 rfl rfl
theorem dX8_polish_0 : decode cX8_polish 0 = .ok (.iconst 0, 1) := dk_3 (dk_at dksX8_polish_0 0 rfl rfl)
theorem dX8_polish_1 : decode cX8_polish 1 = .ok (.istore_n 1, 1) := dk_60 (dk_at dksX8_polish_0 1 rfl rfl)
theorem dX8_polish_2 : decode cX8_polish 2 = .ok (.iconst 0, 1) := dk_3 (dk_at dksX8_polish_0 2 rfl rfl)
theorem dX8_polish_3 : decode cX8_polish 3 = .ok (.istore_n 2, 1) := dk_61 (dk_at dksX8_polish_0 3 rfl rfl)
theorem dX8_polish_4 : decode cX8_polish 4 = .ok (.iload_n 2, 1) := dk_28 (dk_at dksX8_polish_0 4 rfl rfl)
theorem dX8_polish_5 : decode cX8_polish 5 = .ok (.iconst 3, 1) := dk_6 (dk_at dksX8_polish_0 5 rfl rfl)
theorem dX8_polish_6 : decode cX8_polish 6 = .ok (.if_icmp .ge 53, 3) := dk_162 0 53 (dk_at dksX8_polish_0 6 rfl rfl)
theorem dX8_polish_9 : decode cX8_polish 9 = .ok (.aload_n 0, 1) := dk_42 (dk_at dksX8_polish_0 9 rfl rfl)
theorem dX8_polish_10 : decode cX8_polish 10 = .ok (.getfield 11, 3) := dk_180 0 11 (dk_at dksX8_polish_0 10 rfl rfl)
theorem dX8_polish_13 : decode cX8_polish 13 = .ok (.iload_n 2, 1) := dk_28 (dk_at dksX8_polish_0 13 rfl rfl)
theorem dX8_polish_14 : decode cX8_polish 14 = .ok (.aaload, 1) := dk_50 (dk_at dksX8_polish_0 14 rfl rfl)
theorem dX8_polish_15 : decode cX8_polish 15 = .ok (.astore_n 3, 1) := dk_78 (dk_at dksX8_polish_0 15 rfl rfl)
theorem dX8_polish_16 : decode cX8_polish 16 = .ok (.aload_n 3, 1) := dk_45 (dk_at dksX8_polish_0 16 rfl rfl)
theorem dX8_polish_17 : decode cX8_polish 17 = .ok (.getfield 32, 3) := dk_180 0 32 (dk_at dksX8_polish_0 17 rfl rfl)
theorem dX8_polish_20 : decode cX8_polish 20 = .ok (.ifCond .eq 33, 3) := dk_153 0 33 (dk_at dksX8_polish_0 20 rfl rfl)
theorem dX8_polish_23 : decode cX8_polish 23 = .ok (.aload_n 3, 1) := dk_45 (dk_at dksX8_polish_0 23 rfl rfl)
theorem dX8_polish_24 : decode cX8_polish 24 = .ok (.iconst 0, 1) := dk_3 (dk_at dksX8_polish_1 0 rfl rfl)
theorem dX8_polish_25 : decode cX8_polish 25 = .ok (.putfield 32, 3) := dk_181 0 32 (dk_at dksX8_polish_1 1 rfl rfl)
theorem dX8_polish_28 : decode cX8_polish 28 = .ok (.iinc 1 1, 3) := dk_132 1 1 (dk_at dksX8_polish_1 4 rfl rfl)
theorem dX8_polish_31 : decode cX8_polish 31 = .ok (.iconst 0, 1) := dk_3 (dk_at dksX8_polish_1 7 rfl rfl)
theorem dX8_polish_32 : decode cX8_polish 32 = .ok (.istore 4, 2) := dk_54 4 (dk_at dksX8_polish_1 8 rfl rfl)
theorem dX8_polish_34 : decode cX8_polish 34 = .ok (.iload 4, 2) := dk_21 4 (dk_at dksX8_polish_1 10 rfl rfl)
theorem dX8_polish_36 : decode cX8_polish 36 = .ok (.bipush 40, 2) := dk_16 40 (dk_at dksX8_polish_1 12 rfl rfl)
theorem dX8_polish_38 : decode cX8_polish 38 = .ok (.if_icmp .ge 15, 3) := dk_162 0 15 (dk_at dksX8_polish_1 14 rfl rfl)
theorem dX8_polish_41 : decode cX8_polish 41 = .ok (.aload_n 3, 1) := dk_45 (dk_at dksX8_polish_1 17 rfl rfl)
theorem dX8_polish_42 : decode cX8_polish 42 = .ok (.iload 4, 2) := dk_21 4 (dk_at dksX8_polish_1 18 rfl rfl)
theorem dX8_polish_44 : decode cX8_polish 44 = .ok (.invokevirtual 36, 3) := dk_182 0 36 (dk_at dksX8_polish_1 20 rfl rfl)
theorem dX8_polish_47 : decode cX8_polish 47 = .ok (.iinc 4 1, 3) := dk_132 4 1 (dk_at dksX8_polish_2 0 rfl rfl)
theorem dX8_polish_50 : decode cX8_polish 50 = .ok (.goto (-16), 3) := dk_167 255 240 (dk_at dksX8_polish_2 3 rfl rfl)
theorem dX8_polish_53 : decode cX8_polish 53 = .ok (.iinc 2 1, 3) := dk_132 2 1 (dk_at dksX8_polish_2 6 rfl rfl)
theorem dX8_polish_56 : decode cX8_polish 56 = .ok (.goto (-52), 3) := dk_167 255 204 (dk_at dksX8_polish_2 9 rfl rfl)
theorem dX8_polish_59 : decode cX8_polish 59 = .ok (.iload_n 1, 1) := dk_27 (dk_at dksX8_polish_2 12 rfl rfl)
theorem dX8_polish_60 : decode cX8_polish 60 = .ok (.ireturn, 1) := dk_172 (dk_at dksX8_polish_2 13 rfl rfl)
abbrev cX8_copy : ByteArray := prog_6_method_3_code
def yX8_copy : MethodName := ⟨RX8, "copy", "()LDiskPacks$Pack;"⟩
def dkwX8_copy_0 : List UInt8 := [187, 0, 12, 89, 42, 183, 0, 29, 176]
abbrev dktX8_copy_0 : List UInt8 := dkwX8_copy_0 ++ []
theorem dksX8_copy_0 : cX8_copy.data.toList.drop 0 = dktX8_copy_0 := by decide +kernel
theorem dX8_copy_0 : decode cX8_copy 0 = .ok (.new 12, 3) := dk_187 0 12 (dk_at dksX8_copy_0 0 rfl rfl)
theorem dX8_copy_3 : decode cX8_copy 3 = .ok (.dup, 1) := dk_89 (dk_at dksX8_copy_0 3 rfl rfl)
theorem dX8_copy_4 : decode cX8_copy 4 = .ok (.aload_n 0, 1) := dk_42 (dk_at dksX8_copy_0 4 rfl rfl)
theorem dX8_copy_5 : decode cX8_copy 5 = .ok (.invokespecial 29, 3) := dk_183 0 29 (dk_at dksX8_copy_0 5 rfl rfl)
theorem dX8_copy_8 : decode cX8_copy 8 = .ok (.areturn, 1) := dk_176 (dk_at dksX8_copy_0 8 rfl rfl)
abbrev cX8_init : ByteArray := prog_6_method_2_code
def yX8_init : MethodName := ⟨RX8, "<init>", "(LDiskPacks$Pack;)V"⟩
def dkwX8_init_2 : List UInt8 := [180, 0, 11, 28, 50, 182, 0, 25, 83, 132, 2, 1, 167, 255, 233, 177]
abbrev dktX8_init_2 : List UInt8 := dkwX8_init_2 ++ []
def dkwX8_init_1 : List UInt8 := [181, 0, 21, 42, 43, 180, 0, 17, 181, 0, 17, 3, 61, 28, 6, 162, 0, 24, 42, 180, 0, 11, 28, 43]
abbrev dktX8_init_1 : List UInt8 := dkwX8_init_1 ++ dktX8_init_2
def dkwX8_init_0 : List UInt8 := [42, 183, 0, 3, 42, 6, 189, 0, 9, 181, 0, 11, 42, 2, 181, 0, 17, 42, 43, 180, 0, 21]
abbrev dktX8_init_0 : List UInt8 := dkwX8_init_0 ++ dktX8_init_1
theorem dksX8_init_0 : cX8_init.data.toList.drop 0 = dktX8_init_0 := by decide +kernel
theorem dksX8_init_1 : cX8_init.data.toList.drop 22 = dktX8_init_1 := dk_seg dksX8_init_0 22 rfl rfl
theorem dksX8_init_2 : cX8_init.data.toList.drop 46 = dktX8_init_2 := dk_seg dksX8_init_1 24 rfl rfl
theorem dX8_init_0 : decode cX8_init 0 = .ok (.aload_n 0, 1) := dk_42 (dk_at dksX8_init_0 0 rfl rfl)
theorem dX8_init_1 : decode cX8_init 1 = .ok (.invokespecial 3, 3) := dk_183 0 3 (dk_at dksX8_init_0 1 rfl rfl)
theorem dX8_init_4 : decode cX8_init 4 = .ok (.aload_n 0, 1) := dk_42 (dk_at dksX8_init_0 4 rfl rfl)
theorem dX8_init_5 : decode cX8_init 5 = .ok (.iconst 3, 1) := dk_6 (dk_at dksX8_init_0 5 rfl rfl)
theorem dX8_init_6 : decode cX8_init 6 = .ok (.anewarray 9, 3) := dk_189 0 9 (dk_at dksX8_init_0 6 rfl rfl)
theorem dX8_init_9 : decode cX8_init 9 = .ok (.putfield 11, 3) := dk_181 0 11 (dk_at dksX8_init_0 9 rfl rfl)
theorem dX8_init_12 : decode cX8_init 12 = .ok (.aload_n 0, 1) := dk_42 (dk_at dksX8_init_0 12 rfl rfl)
theorem dX8_init_13 : decode cX8_init 13 = .ok (.iconst (-1), 1) := dk_2 (dk_at dksX8_init_0 13 rfl rfl)
theorem dX8_init_14 : decode cX8_init 14 = .ok (.putfield 17, 3) := dk_181 0 17 (dk_at dksX8_init_0 14 rfl rfl)
theorem dX8_init_17 : decode cX8_init 17 = .ok (.aload_n 0, 1) := dk_42 (dk_at dksX8_init_0 17 rfl rfl)
theorem dX8_init_18 : decode cX8_init 18 = .ok (.aload_n 1, 1) := dk_43 (dk_at dksX8_init_0 18 rfl rfl)
theorem dX8_init_19 : decode cX8_init 19 = .ok (.getfield 21, 3) := dk_180 0 21 (dk_at dksX8_init_0 19 rfl rfl)
theorem dX8_init_22 : decode cX8_init 22 = .ok (.putfield 21, 3) := dk_181 0 21 (dk_at dksX8_init_1 0 rfl rfl)
theorem dX8_init_25 : decode cX8_init 25 = .ok (.aload_n 0, 1) := dk_42 (dk_at dksX8_init_1 3 rfl rfl)
theorem dX8_init_26 : decode cX8_init 26 = .ok (.aload_n 1, 1) := dk_43 (dk_at dksX8_init_1 4 rfl rfl)
theorem dX8_init_27 : decode cX8_init 27 = .ok (.getfield 17, 3) := dk_180 0 17 (dk_at dksX8_init_1 5 rfl rfl)
theorem dX8_init_30 : decode cX8_init 30 = .ok (.putfield 17, 3) := dk_181 0 17 (dk_at dksX8_init_1 8 rfl rfl)
theorem dX8_init_33 : decode cX8_init 33 = .ok (.iconst 0, 1) := dk_3 (dk_at dksX8_init_1 11 rfl rfl)
theorem dX8_init_34 : decode cX8_init 34 = .ok (.istore_n 2, 1) := dk_61 (dk_at dksX8_init_1 12 rfl rfl)
theorem dX8_init_35 : decode cX8_init 35 = .ok (.iload_n 2, 1) := dk_28 (dk_at dksX8_init_1 13 rfl rfl)
theorem dX8_init_36 : decode cX8_init 36 = .ok (.iconst 3, 1) := dk_6 (dk_at dksX8_init_1 14 rfl rfl)
theorem dX8_init_37 : decode cX8_init 37 = .ok (.if_icmp .ge 24, 3) := dk_162 0 24 (dk_at dksX8_init_1 15 rfl rfl)
theorem dX8_init_40 : decode cX8_init 40 = .ok (.aload_n 0, 1) := dk_42 (dk_at dksX8_init_1 18 rfl rfl)
theorem dX8_init_41 : decode cX8_init 41 = .ok (.getfield 11, 3) := dk_180 0 11 (dk_at dksX8_init_1 19 rfl rfl)
theorem dX8_init_44 : decode cX8_init 44 = .ok (.iload_n 2, 1) := dk_28 (dk_at dksX8_init_1 22 rfl rfl)
theorem dX8_init_45 : decode cX8_init 45 = .ok (.aload_n 1, 1) := dk_43 (dk_at dksX8_init_1 23 rfl rfl)
theorem dX8_init_46 : decode cX8_init 46 = .ok (.getfield 11, 3) := dk_180 0 11 (dk_at dksX8_init_2 0 rfl rfl)
theorem dX8_init_49 : decode cX8_init 49 = .ok (.iload_n 2, 1) := dk_28 (dk_at dksX8_init_2 3 rfl rfl)
theorem dX8_init_50 : decode cX8_init 50 = .ok (.aaload, 1) := dk_50 (dk_at dksX8_init_2 4 rfl rfl)
theorem dX8_init_51 : decode cX8_init 51 = .ok (.invokevirtual 25, 3) := dk_182 0 25 (dk_at dksX8_init_2 5 rfl rfl)
theorem dX8_init_54 : decode cX8_init 54 = .ok (.aastore, 1) := dk_83 (dk_at dksX8_init_2 8 rfl rfl)
theorem dX8_init_55 : decode cX8_init 55 = .ok (.iinc 2 1, 3) := dk_132 2 1 (dk_at dksX8_init_2 9 rfl rfl)
theorem dX8_init_58 : decode cX8_init 58 = .ok (.goto (-23), 3) := dk_167 255 233 (dk_at dksX8_init_2 12 rfl rfl)
theorem dX8_init_61 : decode cX8_init 61 = .ok (.return_, 1) := dk_177 (dk_at dksX8_init_2 15 rfl rfl)
abbrev cX8_init_2 : ByteArray := prog_6_method_1_code
def yX8_init_2 : MethodName := ⟨RX8, "<init>", "(I)V"⟩
def dkwX8_init_2_2 : List UInt8 := [177]
abbrev dktX8_init_2_2 : List UInt8 := dkwX8_init_2_2 ++ []
def dkwX8_init_2_1 : List UInt8 := [28, 6, 162, 0, 22, 42, 180, 0, 11, 28, 187, 0, 9, 89, 183, 0, 24, 83, 132, 2, 1, 167, 255, 235]
abbrev dktX8_init_2_1 : List UInt8 := dkwX8_init_2_1 ++ dktX8_init_2_2
def dkwX8_init_2_0 : List UInt8 := [42, 183, 0, 3, 42, 6, 189, 0, 9, 181, 0, 11, 42, 2, 181, 0, 17, 42, 27, 181, 0, 21, 3, 61]
abbrev dktX8_init_2_0 : List UInt8 := dkwX8_init_2_0 ++ dktX8_init_2_1
theorem dksX8_init_2_0 : cX8_init_2.data.toList.drop 0 = dktX8_init_2_0 := by decide +kernel
theorem dksX8_init_2_1 : cX8_init_2.data.toList.drop 24 = dktX8_init_2_1 := dk_seg dksX8_init_2_0 24 rfl rfl
theorem dksX8_init_2_2 : cX8_init_2.data.toList.drop 48 = dktX8_init_2_2 := dk_seg dksX8_init_2_1 24 rfl rfl
theorem dX8_init_2_0 : decode cX8_init_2 0 = .ok (.aload_n 0, 1) := dk_42 (dk_at dksX8_init_2_0 0 rfl rfl)
theorem dX8_init_2_1 : decode cX8_init_2 1 = .ok (.invokespecial 3, 3) := dk_183 0 3 (dk_at dksX8_init_2_0 1 rfl rfl)
theorem dX8_init_2_4 : decode cX8_init_2 4 = .ok (.aload_n 0, 1) := dk_42 (dk_at dksX8_init_2_0 4 rfl rfl)
theorem dX8_init_2_5 : decode cX8_init_2 5 = .ok (.iconst 3, 1) := dk_6 (dk_at dksX8_init_2_0 5 rfl rfl)
theorem dX8_init_2_6 : decode cX8_init_2 6 = .ok (.anewarray 9, 3) := dk_189 0 9 (dk_at dksX8_init_2_0 6 rfl rfl)
theorem dX8_init_2_9 : decode cX8_init_2 9 = .ok (.putfield 11, 3) := dk_181 0 11 (dk_at dksX8_init_2_0 9 rfl rfl)
theorem dX8_init_2_12 : decode cX8_init_2 12 = .ok (.aload_n 0, 1) := dk_42 (dk_at dksX8_init_2_0 12 rfl rfl)
theorem dX8_init_2_13 : decode cX8_init_2 13 = .ok (.iconst (-1), 1) := dk_2 (dk_at dksX8_init_2_0 13 rfl rfl)
theorem dX8_init_2_14 : decode cX8_init_2 14 = .ok (.putfield 17, 3) := dk_181 0 17 (dk_at dksX8_init_2_0 14 rfl rfl)
theorem dX8_init_2_17 : decode cX8_init_2 17 = .ok (.aload_n 0, 1) := dk_42 (dk_at dksX8_init_2_0 17 rfl rfl)
theorem dX8_init_2_18 : decode cX8_init_2 18 = .ok (.iload_n 1, 1) := dk_27 (dk_at dksX8_init_2_0 18 rfl rfl)
theorem dX8_init_2_19 : decode cX8_init_2 19 = .ok (.putfield 21, 3) := dk_181 0 21 (dk_at dksX8_init_2_0 19 rfl rfl)
theorem dX8_init_2_22 : decode cX8_init_2 22 = .ok (.iconst 0, 1) := dk_3 (dk_at dksX8_init_2_0 22 rfl rfl)
theorem dX8_init_2_23 : decode cX8_init_2 23 = .ok (.istore_n 2, 1) := dk_61 (dk_at dksX8_init_2_0 23 rfl rfl)
theorem dX8_init_2_24 : decode cX8_init_2 24 = .ok (.iload_n 2, 1) := dk_28 (dk_at dksX8_init_2_1 0 rfl rfl)
theorem dX8_init_2_25 : decode cX8_init_2 25 = .ok (.iconst 3, 1) := dk_6 (dk_at dksX8_init_2_1 1 rfl rfl)
theorem dX8_init_2_26 : decode cX8_init_2 26 = .ok (.if_icmp .ge 22, 3) := dk_162 0 22 (dk_at dksX8_init_2_1 2 rfl rfl)
theorem dX8_init_2_29 : decode cX8_init_2 29 = .ok (.aload_n 0, 1) := dk_42 (dk_at dksX8_init_2_1 5 rfl rfl)
theorem dX8_init_2_30 : decode cX8_init_2 30 = .ok (.getfield 11, 3) := dk_180 0 11 (dk_at dksX8_init_2_1 6 rfl rfl)
theorem dX8_init_2_33 : decode cX8_init_2 33 = .ok (.iload_n 2, 1) := dk_28 (dk_at dksX8_init_2_1 9 rfl rfl)
theorem dX8_init_2_34 : decode cX8_init_2 34 = .ok (.new 9, 3) := dk_187 0 9 (dk_at dksX8_init_2_1 10 rfl rfl)
theorem dX8_init_2_37 : decode cX8_init_2 37 = .ok (.dup, 1) := dk_89 (dk_at dksX8_init_2_1 13 rfl rfl)
theorem dX8_init_2_38 : decode cX8_init_2 38 = .ok (.invokespecial 24, 3) := dk_183 0 24 (dk_at dksX8_init_2_1 14 rfl rfl)
theorem dX8_init_2_41 : decode cX8_init_2 41 = .ok (.aastore, 1) := dk_83 (dk_at dksX8_init_2_1 17 rfl rfl)
theorem dX8_init_2_42 : decode cX8_init_2 42 = .ok (.iinc 2 1, 3) := dk_132 2 1 (dk_at dksX8_init_2_1 18 rfl rfl)
theorem dX8_init_2_45 : decode cX8_init_2 45 = .ok (.goto (-21), 3) := dk_167 255 235 (dk_at dksX8_init_2_1 21 rfl rfl)
theorem dX8_init_2_48 : decode cX8_init_2 48 = .ok (.return_, 1) := dk_177 (dk_at dksX8_init_2_2 0 rfl rfl)
theorem q94 : (Jvm.Cond.initialized "DiskPacks$Pack") ∈ lw_all := lw_g (lw_at lw_m1 25 rfl) rfl
theorem q995 : (Jvm.Cond.instanceMethod ({ cls := "DiskPacks$Pack", name := "polish", desc := "()I" } : Jvm.MethodName)) ∈ lw_all := lw_g (lw_at lw_m4 206 rfl) rfl
theorem q996 : (Jvm.Cond.selects "DiskPacks$Pack" ({ cls := "DiskPacks$Pack", name := "polish", desc := "()I" } : Jvm.MethodName) ({ cls := "DiskPacks$Pack", name := "polish", desc := "()I" } : Jvm.MethodName)) ∈ lw_all := lw_g (lw_at lw_m4 207 rfl) rfl
theorem q997 : (Jvm.Cond.code ({ cls := "DiskPacks$Pack", name := "polish", desc := "()I" } : Jvm.MethodName) prog_6_method_4_code (5 : Nat) (Option.some Jvm.ClassFile.FieldType.int)) ∈ lw_all := lw_g (lw_at lw_m4 208 rfl) rfl
theorem q998 : (Jvm.Cond.methodLink "DiskPacks$Pack" (36 : Nat) ({ cls := "DiskPacks$Surface", name := "halve", desc := "(I)V" } : Jvm.MethodName)) ∈ lw_all := lw_g (lw_at lw_m4 209 rfl) rfl
theorem q1074 : (Jvm.Cond.instanceMethod ({ cls := "DiskPacks$Pack", name := "copy", desc := "()LDiskPacks$Pack;" } : Jvm.MethodName)) ∈ lw_all := lw_g (lw_at lw_m5 45 rfl) rfl
theorem q1075 : (Jvm.Cond.selects "DiskPacks$Pack" ({ cls := "DiskPacks$Pack", name := "copy", desc := "()LDiskPacks$Pack;" } : Jvm.MethodName) ({ cls := "DiskPacks$Pack", name := "copy", desc := "()LDiskPacks$Pack;" } : Jvm.MethodName)) ∈ lw_all := lw_g (lw_at lw_m5 46 rfl) rfl
theorem q1076 : (Jvm.Cond.code ({ cls := "DiskPacks$Pack", name := "copy", desc := "()LDiskPacks$Pack;" } : Jvm.MethodName) prog_6_method_3_code (1 : Nat) (Option.some (Jvm.ClassFile.FieldType.object "DiskPacks$Pack"))) ∈ lw_all := lw_g (lw_at lw_m5 47 rfl) rfl
theorem q1077 : (Jvm.Cond.classLink "DiskPacks$Pack" (12 : Nat) "DiskPacks$Pack") ∈ lw_all := lw_g (lw_at lw_m5 48 rfl) rfl
theorem q1078 : (Jvm.Cond.instantiable "DiskPacks$Pack" (3 : Nat)) ∈ lw_all := lw_g (lw_at lw_m5 49 rfl) rfl
theorem q1079 : (Jvm.Cond.methodLink "DiskPacks$Pack" (29 : Nat) ({ cls := "DiskPacks$Pack", name := "<init>", desc := "(LDiskPacks$Pack;)V" } : Jvm.MethodName)) ∈ lw_all := lw_g (lw_at lw_m5 50 rfl) rfl
theorem q1080 : (Jvm.Cond.instanceMethod ({ cls := "DiskPacks$Pack", name := "<init>", desc := "(LDiskPacks$Pack;)V" } : Jvm.MethodName)) ∈ lw_all := lw_g (lw_at lw_m5 51 rfl) rfl
theorem q1081 : (Jvm.Cond.code ({ cls := "DiskPacks$Pack", name := "<init>", desc := "(LDiskPacks$Pack;)V" } : Jvm.MethodName) prog_6_method_2_code (3 : Nat) (Option.none : Option Jvm.ClassFile.FieldType)) ∈ lw_all := lw_g (lw_at lw_m5 52 rfl) rfl
theorem q1082 : (Jvm.Cond.methodLink "DiskPacks$Pack" (3 : Nat) ({ cls := "java/lang/Object", name := "<init>", desc := "()V" } : Jvm.MethodName)) ∈ lw_all := lw_g (lw_at lw_m5 53 rfl) rfl
theorem q1083 : (Jvm.Cond.classLink "DiskPacks$Pack" (9 : Nat) "DiskPacks$Surface") ∈ lw_all := lw_g (lw_at lw_m5 54 rfl) rfl
theorem q1085 : (Jvm.Cond.methodLink "DiskPacks$Pack" (25 : Nat) ({ cls := "DiskPacks$Surface", name := "copy", desc := "()LDiskPacks$Surface;" } : Jvm.MethodName)) ∈ lw_all := lw_g (lw_at lw_m5 56 rfl) rfl
theorem q1112 : (Jvm.Cond.fieldLink "DiskPacks$Pack" (32 : Nat) "DiskPacks$Surface" "isScratched" "Z") ∈ lw_all := lw_g (lw_at lw_m5 83 rfl) rfl
theorem q1125 : (Jvm.Cond.fieldLink "DiskPacks$Pack" (21 : Nat) "DiskPacks$Pack" "base" "I") ∈ lw_all := lw_g (lw_at lw_m5 96 rfl) rfl
theorem q1128 : (Jvm.Cond.fieldLink "DiskPacks$Pack" (11 : Nat) "DiskPacks$Pack" "surfaces" "[LDiskPacks$Surface;") ∈ lw_all := lw_g (lw_at lw_m5 99 rfl) rfl
theorem q1131 : (Jvm.Cond.fieldLink "DiskPacks$Pack" (17 : Nat) "DiskPacks$Pack" "drive" "I") ∈ lw_all := lw_g (lw_at lw_m5 102 rfl) rfl
theorem q1134 : (Jvm.Cond.laysFinal "DiskPacks$Pack" "DiskPacks$Pack" "base" "I") ∈ lw_all := lw_g (lw_at lw_m5 105 rfl) rfl
theorem q1135 : (Jvm.Cond.soleField "DiskPacks$Pack" "base") ∈ lw_all := lw_g (lw_at lw_m5 106 rfl) rfl
theorem q1136 : (Jvm.Cond.laysFinal "DiskPacks$Pack" "DiskPacks$Pack" "surfaces" "[LDiskPacks$Surface;") ∈ lw_all := lw_g (lw_at lw_m5 107 rfl) rfl
theorem q1137 : (Jvm.Cond.soleField "DiskPacks$Pack" "surfaces") ∈ lw_all := lw_g (lw_at lw_m5 108 rfl) rfl
theorem q1138 : (Jvm.Cond.lays "DiskPacks$Pack" "DiskPacks$Pack" "drive" "I") ∈ lw_all := lw_g (lw_at lw_m5 109 rfl) rfl
theorem q1139 : (Jvm.Cond.soleField "DiskPacks$Pack" "drive") ∈ lw_all := lw_g (lw_at lw_m5 110 rfl) rfl
theorem q1140 : (Jvm.Cond.superclass "DiskPacks$Pack" "java/lang/Object") ∈ lw_all := lw_g (lw_at lw_m5 111 rfl) rfl
theorem q1172 : (Jvm.Cond.selects "DiskPacks$Pack" ({ cls := "java/lang/Object", name := "getClass", desc := "()Ljava/lang/Class;" } : Jvm.MethodName) ({ cls := "java/lang/Object", name := "getClass", desc := "()Ljava/lang/Class;" } : Jvm.MethodName)) ∈ lw_all := lw_g (lw_at lw_m5 143 rfl) rfl
theorem q1344 : (Jvm.Cond.instanceMethod ({ cls := "DiskPacks$Pack", name := "<init>", desc := "(I)V" } : Jvm.MethodName)) ∈ lw_all := lw_g (lw_at lw_m6 75 rfl) rfl
theorem q1345 : (Jvm.Cond.code ({ cls := "DiskPacks$Pack", name := "<init>", desc := "(I)V" } : Jvm.MethodName) prog_6_method_1_code (3 : Nat) (Option.none : Option Jvm.ClassFile.FieldType)) ∈ lw_all := lw_g (lw_at lw_m6 76 rfl) rfl
theorem q1346 : (Jvm.Cond.methodLink "DiskPacks$Pack" (24 : Nat) ({ cls := "DiskPacks$Surface", name := "<init>", desc := "()V" } : Jvm.MethodName)) ∈ lw_all := lw_g (lw_at lw_m6 77 rfl) rfl
theorem q2182 : (Jvm.Cond.castable "DiskPacks$Pack" "java/lang/Object") ∈ lw_tbl := lw_at lw_m9 193 rfl
theorem in_X8 : ∀ w ∈ wsX80, w ∈ lw_all := lw_in wsX80 [1134, 1136, 1138] (by decide +kernel) (by decide +kernel)
/-! DiskPacks$Surface -/
set_option maxRecDepth 100000
def RX9 : String := "DiskPacks$Surface"
def TX9 : u_T := fun k => match k with
  | 0 => ("DiskPacks$Surface", "values", "[I", true)
  | 1 => ("DiskPacks$Surface", "positions", "[I", true)
  | 2 => ("DiskPacks$Surface", "strengths", "[F", true)
  | _ => ("DiskPacks$Surface", "isScratched", "Z", false)
def tyX9 : Nat → FieldType := fun k => match k with
  | 0 => .array .int
  | 1 => .array .int
  | 2 => .array .float
  | _ => .boolean
abbrev wsX90 : List Cond := u_ws RX9 TX9 4
theorem nmX9 : ∀ a, a < 4 → ∀ b, b < 4 → a ≠ b → (TX9 a).2.1 ≠ (TX9 b).2.1 := by decide +kernel
theorem tyX9_ok : ∀ k, k < 4 → parseFieldDescriptor (TX9 k).2.2.1 = some (tyX9 k) := by decide +kernel
abbrev cX9_write : ByteArray := prog_10_method_5_code
def yX9_write : MethodName := ⟨RX9, "write", "(IIIF)V"⟩
def dkwX9_write_2 : List UInt8 := [27, 21, 5, 153, 0, 11, 23, 4, 18, 44, 106, 167, 0, 5, 23, 4, 81, 177]
abbrev dktX9_write_2 : List UInt8 := dkwX9_write_2 ++ []
def dkwX9_write_1 : List UInt8 := [167, 0, 4, 3, 54, 5, 42, 180, 0, 9, 27, 28, 79, 42, 180, 0, 15, 27, 29, 79, 42, 180, 0, 18]
abbrev dktX9_write_1 : List UInt8 := dkwX9_write_1 ++ dktX9_write_2
def dkwX9_write_0 : List UInt8 := [42, 27, 182, 0, 36, 154, 0, 22, 42, 180, 0, 15, 27, 46, 29, 184, 0, 40, 16, 10, 164, 0, 7, 4]
abbrev dktX9_write_0 : List UInt8 := dkwX9_write_0 ++ dktX9_write_1
theorem dksX9_write_0 : cX9_write.data.toList.drop 0 = dktX9_write_0 := by decide +kernel
theorem dksX9_write_1 : cX9_write.data.toList.drop 24 = dktX9_write_1 := dk_seg dksX9_write_0 24 rfl rfl
theorem dksX9_write_2 : cX9_write.data.toList.drop 48 = dktX9_write_2 := dk_seg dksX9_write_1 24 rfl rfl
theorem dX9_write_0 : decode cX9_write 0 = .ok (.aload_n 0, 1) := dk_42 (dk_at dksX9_write_0 0 rfl rfl)
theorem dX9_write_1 : decode cX9_write 1 = .ok (.iload_n 1, 1) := dk_27 (dk_at dksX9_write_0 1 rfl rfl)
theorem dX9_write_2 : decode cX9_write 2 = .ok (.invokevirtual 36, 3) := dk_182 0 36 (dk_at dksX9_write_0 2 rfl rfl)
theorem dX9_write_5 : decode cX9_write 5 = .ok (.ifCond .ne 22, 3) := dk_154 0 22 (dk_at dksX9_write_0 5 rfl rfl)
theorem dX9_write_8 : decode cX9_write 8 = .ok (.aload_n 0, 1) := dk_42 (dk_at dksX9_write_0 8 rfl rfl)
theorem dX9_write_9 : decode cX9_write 9 = .ok (.getfield 15, 3) := dk_180 0 15 (dk_at dksX9_write_0 9 rfl rfl)
theorem dX9_write_12 : decode cX9_write 12 = .ok (.iload_n 1, 1) := dk_27 (dk_at dksX9_write_0 12 rfl rfl)
theorem dX9_write_13 : decode cX9_write 13 = .ok (.iaload, 1) := dk_46 (dk_at dksX9_write_0 13 rfl rfl)
theorem dX9_write_14 : decode cX9_write 14 = .ok (.iload_n 3, 1) := dk_29 (dk_at dksX9_write_0 14 rfl rfl)
theorem dX9_write_15 : decode cX9_write 15 = .ok (.invokestatic 40, 3) := dk_184 0 40 (dk_at dksX9_write_0 15 rfl rfl)
theorem dX9_write_18 : decode cX9_write 18 = .ok (.bipush 10, 2) := dk_16 10 (dk_at dksX9_write_0 18 rfl rfl)
theorem dX9_write_20 : decode cX9_write 20 = .ok (.if_icmp .le 7, 3) := dk_164 0 7 (dk_at dksX9_write_0 20 rfl rfl)
theorem dX9_write_23 : decode cX9_write 23 = .ok (.iconst 1, 1) := dk_4 (dk_at dksX9_write_0 23 rfl rfl)
theorem dX9_write_24 : decode cX9_write 24 = .ok (.goto 4, 3) := dk_167 0 4 (dk_at dksX9_write_1 0 rfl rfl)
theorem dX9_write_27 : decode cX9_write 27 = .ok (.iconst 0, 1) := dk_3 (dk_at dksX9_write_1 3 rfl rfl)
theorem dX9_write_28 : decode cX9_write 28 = .ok (.istore 5, 2) := dk_54 5 (dk_at dksX9_write_1 4 rfl rfl)
theorem dX9_write_30 : decode cX9_write 30 = .ok (.aload_n 0, 1) := dk_42 (dk_at dksX9_write_1 6 rfl rfl)
theorem dX9_write_31 : decode cX9_write 31 = .ok (.getfield 9, 3) := dk_180 0 9 (dk_at dksX9_write_1 7 rfl rfl)
theorem dX9_write_34 : decode cX9_write 34 = .ok (.iload_n 1, 1) := dk_27 (dk_at dksX9_write_1 10 rfl rfl)
theorem dX9_write_35 : decode cX9_write 35 = .ok (.iload_n 2, 1) := dk_28 (dk_at dksX9_write_1 11 rfl rfl)
theorem dX9_write_36 : decode cX9_write 36 = .ok (.iastore, 1) := dk_79 (dk_at dksX9_write_1 12 rfl rfl)
theorem dX9_write_37 : decode cX9_write 37 = .ok (.aload_n 0, 1) := dk_42 (dk_at dksX9_write_1 13 rfl rfl)
theorem dX9_write_38 : decode cX9_write 38 = .ok (.getfield 15, 3) := dk_180 0 15 (dk_at dksX9_write_1 14 rfl rfl)
theorem dX9_write_41 : decode cX9_write 41 = .ok (.iload_n 1, 1) := dk_27 (dk_at dksX9_write_1 17 rfl rfl)
theorem dX9_write_42 : decode cX9_write 42 = .ok (.iload_n 3, 1) := dk_29 (dk_at dksX9_write_1 18 rfl rfl)
theorem dX9_write_43 : decode cX9_write 43 = .ok (.iastore, 1) := dk_79 (dk_at dksX9_write_1 19 rfl rfl)
theorem dX9_write_44 : decode cX9_write 44 = .ok (.aload_n 0, 1) := dk_42 (dk_at dksX9_write_1 20 rfl rfl)
theorem dX9_write_45 : decode cX9_write 45 = .ok (.getfield 18, 3) := dk_180 0 18 (dk_at dksX9_write_1 21 rfl rfl)
theorem dX9_write_48 : decode cX9_write 48 = .ok (.iload_n 1, 1) := dk_27 (dk_at dksX9_write_2 0 rfl rfl)
theorem dX9_write_49 : decode cX9_write 49 = .ok (.iload 5, 2) := dk_21 5 (dk_at dksX9_write_2 1 rfl rfl)
theorem dX9_write_51 : decode cX9_write 51 = .ok (.ifCond .eq 11, 3) := dk_153 0 11 (dk_at dksX9_write_2 3 rfl rfl)
theorem dX9_write_54 : decode cX9_write 54 = .ok (.fload 4, 2) := dk_23 4 (dk_at dksX9_write_2 6 rfl rfl)
theorem dX9_write_56 : decode cX9_write 56 = .ok (.ldc 44, 2) := dk_18 44 (dk_at dksX9_write_2 8 rfl rfl)
theorem dX9_write_58 : decode cX9_write 58 = .ok (.fmul, 1) := dk_106 (dk_at dksX9_write_2 10 rfl rfl)
theorem dX9_write_59 : decode cX9_write 59 = .ok (.goto 5, 3) := dk_167 0 5 (dk_at dksX9_write_2 11 rfl rfl)
theorem dX9_write_62 : decode cX9_write 62 = .ok (.fload 4, 2) := dk_23 4 (dk_at dksX9_write_2 14 rfl rfl)
theorem dX9_write_64 : decode cX9_write 64 = .ok (.fastore, 1) := dk_81 (dk_at dksX9_write_2 16 rfl rfl)
theorem dX9_write_65 : decode cX9_write 65 = .ok (.return_, 1) := dk_177 (dk_at dksX9_write_2 17 rfl rfl)
abbrev cX9_isEmpty : ByteArray := prog_10_method_4_code
def yX9_isEmpty : MethodName := ⟨RX9, "isEmpty", "(I)Z"⟩
def dkwX9_isEmpty_0 : List UInt8 := [42, 180, 0, 9, 27, 46, 2, 160, 0, 7, 4, 167, 0, 4, 3, 172]
abbrev dktX9_isEmpty_0 : List UInt8 := dkwX9_isEmpty_0 ++ []
theorem dksX9_isEmpty_0 : cX9_isEmpty.data.toList.drop 0 = dktX9_isEmpty_0 := by decide +kernel
theorem dX9_isEmpty_0 : decode cX9_isEmpty 0 = .ok (.aload_n 0, 1) := dk_42 (dk_at dksX9_isEmpty_0 0 rfl rfl)
theorem dX9_isEmpty_1 : decode cX9_isEmpty 1 = .ok (.getfield 9, 3) := dk_180 0 9 (dk_at dksX9_isEmpty_0 1 rfl rfl)
theorem dX9_isEmpty_4 : decode cX9_isEmpty 4 = .ok (.iload_n 1, 1) := dk_27 (dk_at dksX9_isEmpty_0 4 rfl rfl)
theorem dX9_isEmpty_5 : decode cX9_isEmpty 5 = .ok (.iaload, 1) := dk_46 (dk_at dksX9_isEmpty_0 5 rfl rfl)
theorem dX9_isEmpty_6 : decode cX9_isEmpty 6 = .ok (.iconst (-1), 1) := dk_2 (dk_at dksX9_isEmpty_0 6 rfl rfl)
theorem dX9_isEmpty_7 : decode cX9_isEmpty 7 = .ok (.if_icmp .ne 7, 3) := dk_160 0 7 (dk_at dksX9_isEmpty_0 7 rfl rfl)
theorem dX9_isEmpty_10 : decode cX9_isEmpty 10 = .ok (.iconst 1, 1) := dk_4 (dk_at dksX9_isEmpty_0 10 rfl rfl)
theorem dX9_isEmpty_11 : decode cX9_isEmpty 11 = .ok (.goto 4, 3) := dk_167 0 4 (dk_at dksX9_isEmpty_0 11 rfl rfl)
theorem dX9_isEmpty_14 : decode cX9_isEmpty 14 = .ok (.iconst 0, 1) := dk_3 (dk_at dksX9_isEmpty_0 14 rfl rfl)
theorem dX9_isEmpty_15 : decode cX9_isEmpty 15 = .ok (.ireturn, 1) := dk_172 (dk_at dksX9_isEmpty_0 15 rfl rfl)
abbrev cX9_halve : ByteArray := prog_10_method_8_code
def yX9_halve : MethodName := ⟨RX9, "halve", "(I)V"⟩
def dkwX9_halve_0 : List UInt8 := [42, 180, 0, 18, 27, 92, 48, 13, 110, 81, 177]
abbrev dktX9_halve_0 : List UInt8 := dkwX9_halve_0 ++ []
theorem dksX9_halve_0 : cX9_halve.data.toList.drop 0 = dktX9_halve_0 := by decide +kernel
theorem dX9_halve_0 : decode cX9_halve 0 = .ok (.aload_n 0, 1) := dk_42 (dk_at dksX9_halve_0 0 rfl rfl)
theorem dX9_halve_1 : decode cX9_halve 1 = .ok (.getfield 18, 3) := dk_180 0 18 (dk_at dksX9_halve_0 1 rfl rfl)
theorem dX9_halve_4 : decode cX9_halve 4 = .ok (.iload_n 1, 1) := dk_27 (dk_at dksX9_halve_0 4 rfl rfl)
theorem dX9_halve_5 : decode cX9_halve 5 = .ok (.dup2, 1) := dk_92 (dk_at dksX9_halve_0 5 rfl rfl)
theorem dX9_halve_6 : decode cX9_halve 6 = .ok (.faload, 1) := dk_48 (dk_at dksX9_halve_0 6 rfl rfl)
theorem dX9_halve_7 : decode cX9_halve 7 = .ok (.fconst 2, 1) := dk_13 (dk_at dksX9_halve_0 7 rfl rfl)
theorem dX9_halve_8 : decode cX9_halve 8 = .ok (.fdiv, 1) := dk_110 (dk_at dksX9_halve_0 8 rfl rfl)
theorem dX9_halve_9 : decode cX9_halve 9 = .ok (.fastore, 1) := dk_81 (dk_at dksX9_halve_0 9 rfl rfl)
theorem dX9_halve_10 : decode cX9_halve 10 = .ok (.return_, 1) := dk_177 (dk_at dksX9_halve_0 10 rfl rfl)
abbrev cX9_signalAt : ByteArray := prog_10_method_7_code
def yX9_signalAt : MethodName := ⟨RX9, "signalAt", "(II)F"⟩
def dkwX9_signalAt_1 : List UInt8 := [46, 184, 0, 40, 184, 0, 46, 174]
abbrev dktX9_signalAt_1 : List UInt8 := dkwX9_signalAt_1 ++ []
def dkwX9_signalAt_0 : List UInt8 := [42, 27, 182, 0, 36, 153, 0, 7, 11, 167, 0, 22, 42, 180, 0, 18, 27, 48, 28, 42, 180, 0, 15, 27]
abbrev dktX9_signalAt_0 : List UInt8 := dkwX9_signalAt_0 ++ dktX9_signalAt_1
theorem dksX9_signalAt_0 : cX9_signalAt.data.toList.drop 0 = dktX9_signalAt_0 := by decide +kernel
theorem dksX9_signalAt_1 : cX9_signalAt.data.toList.drop 24 = dktX9_signalAt_1 := dk_seg dksX9_signalAt_0 24 rfl rfl
theorem dX9_signalAt_0 : decode cX9_signalAt 0 = .ok (.aload_n 0, 1) := dk_42 (dk_at dksX9_signalAt_0 0 rfl rfl)
theorem dX9_signalAt_1 : decode cX9_signalAt 1 = .ok (.iload_n 1, 1) := dk_27 (dk_at dksX9_signalAt_0 1 rfl rfl)
theorem dX9_signalAt_2 : decode cX9_signalAt 2 = .ok (.invokevirtual 36, 3) := dk_182 0 36 (dk_at dksX9_signalAt_0 2 rfl rfl)
theorem dX9_signalAt_5 : decode cX9_signalAt 5 = .ok (.ifCond .eq 7, 3) := dk_153 0 7 (dk_at dksX9_signalAt_0 5 rfl rfl)
theorem dX9_signalAt_8 : decode cX9_signalAt 8 = .ok (.fconst 0, 1) := dk_11 (dk_at dksX9_signalAt_0 8 rfl rfl)
theorem dX9_signalAt_9 : decode cX9_signalAt 9 = .ok (.goto 22, 3) := dk_167 0 22 (dk_at dksX9_signalAt_0 9 rfl rfl)
theorem dX9_signalAt_12 : decode cX9_signalAt 12 = .ok (.aload_n 0, 1) := dk_42 (dk_at dksX9_signalAt_0 12 rfl rfl)
theorem dX9_signalAt_13 : decode cX9_signalAt 13 = .ok (.getfield 18, 3) := dk_180 0 18 (dk_at dksX9_signalAt_0 13 rfl rfl)
theorem dX9_signalAt_16 : decode cX9_signalAt 16 = .ok (.iload_n 1, 1) := dk_27 (dk_at dksX9_signalAt_0 16 rfl rfl)
theorem dX9_signalAt_17 : decode cX9_signalAt 17 = .ok (.faload, 1) := dk_48 (dk_at dksX9_signalAt_0 17 rfl rfl)
theorem dX9_signalAt_18 : decode cX9_signalAt 18 = .ok (.iload_n 2, 1) := dk_28 (dk_at dksX9_signalAt_0 18 rfl rfl)
theorem dX9_signalAt_19 : decode cX9_signalAt 19 = .ok (.aload_n 0, 1) := dk_42 (dk_at dksX9_signalAt_0 19 rfl rfl)
theorem dX9_signalAt_20 : decode cX9_signalAt 20 = .ok (.getfield 15, 3) := dk_180 0 15 (dk_at dksX9_signalAt_0 20 rfl rfl)
theorem dX9_signalAt_23 : decode cX9_signalAt 23 = .ok (.iload_n 1, 1) := dk_27 (dk_at dksX9_signalAt_0 23 rfl rfl)
theorem dX9_signalAt_24 : decode cX9_signalAt 24 = .ok (.iaload, 1) := dk_46 (dk_at dksX9_signalAt_1 0 rfl rfl)
theorem dX9_signalAt_25 : decode cX9_signalAt 25 = .ok (.invokestatic 40, 3) := dk_184 0 40 (dk_at dksX9_signalAt_1 1 rfl rfl)
theorem dX9_signalAt_28 : decode cX9_signalAt 28 = .ok (.invokestatic 46, 3) := dk_184 0 46 (dk_at dksX9_signalAt_1 4 rfl rfl)
theorem dX9_signalAt_31 : decode cX9_signalAt 31 = .ok (.freturn, 1) := dk_174 (dk_at dksX9_signalAt_1 7 rfl rfl)
abbrev cX9_signal : ByteArray := prog_10_method_6_code
def yX9_signal : MethodName := ⟨RX9, "signal", "(FI)F"⟩
def dkwX9_signal_0 : List UInt8 := [27, 16, 20, 161, 0, 5, 11, 174, 27, 134, 18, 45, 110, 69, 12, 36, 102, 34, 106, 174]
abbrev dktX9_signal_0 : List UInt8 := dkwX9_signal_0 ++ []
theorem dksX9_signal_0 : cX9_signal.data.toList.drop 0 = dktX9_signal_0 := by decide +kernel
theorem dX9_signal_0 : decode cX9_signal 0 = .ok (.iload_n 1, 1) := dk_27 (dk_at dksX9_signal_0 0 rfl rfl)
theorem dX9_signal_1 : decode cX9_signal 1 = .ok (.bipush 20, 2) := dk_16 20 (dk_at dksX9_signal_0 1 rfl rfl)
theorem dX9_signal_3 : decode cX9_signal 3 = .ok (.if_icmp .lt 5, 3) := dk_161 0 5 (dk_at dksX9_signal_0 3 rfl rfl)
theorem dX9_signal_6 : decode cX9_signal 6 = .ok (.fconst 0, 1) := dk_11 (dk_at dksX9_signal_0 6 rfl rfl)
theorem dX9_signal_7 : decode cX9_signal 7 = .ok (.freturn, 1) := dk_174 (dk_at dksX9_signal_0 7 rfl rfl)
theorem dX9_signal_8 : decode cX9_signal 8 = .ok (.iload_n 1, 1) := dk_27 (dk_at dksX9_signal_0 8 rfl rfl)
theorem dX9_signal_9 : decode cX9_signal 9 = .ok (.i2f, 1) := dk_134 (dk_at dksX9_signal_0 9 rfl rfl)
theorem dX9_signal_10 : decode cX9_signal 10 = .ok (.ldc 45, 2) := dk_18 45 (dk_at dksX9_signal_0 10 rfl rfl)
theorem dX9_signal_12 : decode cX9_signal 12 = .ok (.fdiv, 1) := dk_110 (dk_at dksX9_signal_0 12 rfl rfl)
theorem dX9_signal_13 : decode cX9_signal 13 = .ok (.fstore_n 2, 1) := dk_69 (dk_at dksX9_signal_0 13 rfl rfl)
theorem dX9_signal_14 : decode cX9_signal 14 = .ok (.fconst 1, 1) := dk_12 (dk_at dksX9_signal_0 14 rfl rfl)
theorem dX9_signal_15 : decode cX9_signal 15 = .ok (.fload_n 2, 1) := dk_36 (dk_at dksX9_signal_0 15 rfl rfl)
theorem dX9_signal_16 : decode cX9_signal 16 = .ok (.fsub, 1) := dk_102 (dk_at dksX9_signal_0 16 rfl rfl)
theorem dX9_signal_17 : decode cX9_signal 17 = .ok (.fload_n 0, 1) := dk_34 (dk_at dksX9_signal_0 17 rfl rfl)
theorem dX9_signal_18 : decode cX9_signal 18 = .ok (.fmul, 1) := dk_106 (dk_at dksX9_signal_0 18 rfl rfl)
theorem dX9_signal_19 : decode cX9_signal 19 = .ok (.freturn, 1) := dk_174 (dk_at dksX9_signal_0 19 rfl rfl)
abbrev cX9_copy : ByteArray := prog_10_method_3_code
def yX9_copy : MethodName := ⟨RX9, "copy", "()LDiskPacks$Surface;"⟩
def dkwX9_copy_0 : List UInt8 := [187, 0, 10, 89, 42, 183, 0, 33, 176]
abbrev dktX9_copy_0 : List UInt8 := dkwX9_copy_0 ++ []
theorem dksX9_copy_0 : cX9_copy.data.toList.drop 0 = dktX9_copy_0 := by decide +kernel
theorem dX9_copy_0 : decode cX9_copy 0 = .ok (.new 10, 3) := dk_187 0 10 (dk_at dksX9_copy_0 0 rfl rfl)
theorem dX9_copy_3 : decode cX9_copy 3 = .ok (.dup, 1) := dk_89 (dk_at dksX9_copy_0 3 rfl rfl)
theorem dX9_copy_4 : decode cX9_copy 4 = .ok (.aload_n 0, 1) := dk_42 (dk_at dksX9_copy_0 4 rfl rfl)
theorem dX9_copy_5 : decode cX9_copy 5 = .ok (.invokespecial 33, 3) := dk_183 0 33 (dk_at dksX9_copy_0 5 rfl rfl)
theorem dX9_copy_8 : decode cX9_copy 8 = .ok (.areturn, 1) := dk_176 (dk_at dksX9_copy_0 8 rfl rfl)
abbrev cX9_init : ByteArray := prog_10_method_2_code
def yX9_init : MethodName := ⟨RX9, "<init>", "(LDiskPacks$Surface;)V"⟩
def dkwX9_init_2 : List UInt8 := [43, 180, 0, 29, 181, 0, 29, 177]
abbrev dktX9_init_2 : List UInt8 := dkwX9_init_2 ++ []
def dkwX9_init_1 : List UInt8 := [182, 0, 22, 192, 0, 23, 181, 0, 15, 42, 43, 180, 0, 18, 182, 0, 27, 192, 0, 28, 181, 0, 18, 42]
abbrev dktX9_init_1 : List UInt8 := dkwX9_init_1 ++ dktX9_init_2
def dkwX9_init_0 : List UInt8 := [42, 183, 0, 3, 42, 43, 180, 0, 9, 182, 0, 22, 192, 0, 23, 181, 0, 9, 42, 43, 180, 0, 15]
abbrev dktX9_init_0 : List UInt8 := dkwX9_init_0 ++ dktX9_init_1
theorem dksX9_init_0 : cX9_init.data.toList.drop 0 = dktX9_init_0 := by decide +kernel
theorem dksX9_init_1 : cX9_init.data.toList.drop 23 = dktX9_init_1 := dk_seg dksX9_init_0 23 rfl rfl
theorem dksX9_init_2 : cX9_init.data.toList.drop 47 = dktX9_init_2 := dk_seg dksX9_init_1 24 rfl rfl
theorem dX9_init_0 : decode cX9_init 0 = .ok (.aload_n 0, 1) := dk_42 (dk_at dksX9_init_0 0 rfl rfl)
theorem dX9_init_1 : decode cX9_init 1 = .ok (.invokespecial 3, 3) := dk_183 0 3 (dk_at dksX9_init_0 1 rfl rfl)
theorem dX9_init_4 : decode cX9_init 4 = .ok (.aload_n 0, 1) := dk_42 (dk_at dksX9_init_0 4 rfl rfl)
theorem dX9_init_5 : decode cX9_init 5 = .ok (.aload_n 1, 1) := dk_43 (dk_at dksX9_init_0 5 rfl rfl)
theorem dX9_init_6 : decode cX9_init 6 = .ok (.getfield 9, 3) := dk_180 0 9 (dk_at dksX9_init_0 6 rfl rfl)
theorem dX9_init_9 : decode cX9_init 9 = .ok (.invokevirtual 22, 3) := dk_182 0 22 (dk_at dksX9_init_0 9 rfl rfl)
theorem dX9_init_12 : decode cX9_init 12 = .ok (.checkcast 23, 3) := dk_192 0 23 (dk_at dksX9_init_0 12 rfl rfl)
theorem dX9_init_15 : decode cX9_init 15 = .ok (.putfield 9, 3) := dk_181 0 9 (dk_at dksX9_init_0 15 rfl rfl)
theorem dX9_init_18 : decode cX9_init 18 = .ok (.aload_n 0, 1) := dk_42 (dk_at dksX9_init_0 18 rfl rfl)
theorem dX9_init_19 : decode cX9_init 19 = .ok (.aload_n 1, 1) := dk_43 (dk_at dksX9_init_0 19 rfl rfl)
theorem dX9_init_20 : decode cX9_init 20 = .ok (.getfield 15, 3) := dk_180 0 15 (dk_at dksX9_init_0 20 rfl rfl)
theorem dX9_init_23 : decode cX9_init 23 = .ok (.invokevirtual 22, 3) := dk_182 0 22 (dk_at dksX9_init_1 0 rfl rfl)
theorem dX9_init_26 : decode cX9_init 26 = .ok (.checkcast 23, 3) := dk_192 0 23 (dk_at dksX9_init_1 3 rfl rfl)
theorem dX9_init_29 : decode cX9_init 29 = .ok (.putfield 15, 3) := dk_181 0 15 (dk_at dksX9_init_1 6 rfl rfl)
theorem dX9_init_32 : decode cX9_init 32 = .ok (.aload_n 0, 1) := dk_42 (dk_at dksX9_init_1 9 rfl rfl)
theorem dX9_init_33 : decode cX9_init 33 = .ok (.aload_n 1, 1) := dk_43 (dk_at dksX9_init_1 10 rfl rfl)
theorem dX9_init_34 : decode cX9_init 34 = .ok (.getfield 18, 3) := dk_180 0 18 (dk_at dksX9_init_1 11 rfl rfl)
theorem dX9_init_37 : decode cX9_init 37 = .ok (.invokevirtual 27, 3) := dk_182 0 27 (dk_at dksX9_init_1 14 rfl rfl)
theorem dX9_init_40 : decode cX9_init 40 = .ok (.checkcast 28, 3) := dk_192 0 28 (dk_at dksX9_init_1 17 rfl rfl)
theorem dX9_init_43 : decode cX9_init 43 = .ok (.putfield 18, 3) := dk_181 0 18 (dk_at dksX9_init_1 20 rfl rfl)
theorem dX9_init_46 : decode cX9_init 46 = .ok (.aload_n 0, 1) := dk_42 (dk_at dksX9_init_1 23 rfl rfl)
theorem dX9_init_47 : decode cX9_init 47 = .ok (.aload_n 1, 1) := dk_43 (dk_at dksX9_init_2 0 rfl rfl)
theorem dX9_init_48 : decode cX9_init 48 = .ok (.getfield 29, 3) := dk_180 0 29 (dk_at dksX9_init_2 1 rfl rfl)
theorem dX9_init_51 : decode cX9_init 51 = .ok (.putfield 29, 3) := dk_181 0 29 (dk_at dksX9_init_2 4 rfl rfl)
theorem dX9_init_54 : decode cX9_init 54 = .ok (.return_, 1) := dk_177 (dk_at dksX9_init_2 7 rfl rfl)
abbrev cX9_init_2 : ByteArray := prog_10_method_1_code
def yX9_init_2 : MethodName := ⟨RX9, "<init>", "()V"⟩
def dkwX9_init_2_2 : List UInt8 := [167, 255, 240, 177]
abbrev dktX9_init_2_2 : List UInt8 := dkwX9_init_2_2 ++ []
def dkwX9_init_2_1 : List UInt8 := [188, 6, 181, 0, 18, 3, 60, 27, 16, 40, 162, 0, 16, 42, 180, 0, 9, 27, 2, 79, 132, 1, 1]
abbrev dktX9_init_2_1 : List UInt8 := dkwX9_init_2_1 ++ dktX9_init_2_2
def dkwX9_init_2_0 : List UInt8 := [42, 183, 0, 3, 42, 16, 40, 188, 10, 181, 0, 9, 42, 16, 40, 188, 10, 181, 0, 15, 42, 16, 40]
abbrev dktX9_init_2_0 : List UInt8 := dkwX9_init_2_0 ++ dktX9_init_2_1
theorem dksX9_init_2_0 : cX9_init_2.data.toList.drop 0 = dktX9_init_2_0 := by decide +kernel
theorem dksX9_init_2_1 : cX9_init_2.data.toList.drop 23 = dktX9_init_2_1 := dk_seg dksX9_init_2_0 23 rfl rfl
theorem dksX9_init_2_2 : cX9_init_2.data.toList.drop 46 = dktX9_init_2_2 := dk_seg dksX9_init_2_1 23 rfl rfl
theorem dX9_init_2_0 : decode cX9_init_2 0 = .ok (.aload_n 0, 1) := dk_42 (dk_at dksX9_init_2_0 0 rfl rfl)
theorem dX9_init_2_1 : decode cX9_init_2 1 = .ok (.invokespecial 3, 3) := dk_183 0 3 (dk_at dksX9_init_2_0 1 rfl rfl)
theorem dX9_init_2_4 : decode cX9_init_2 4 = .ok (.aload_n 0, 1) := dk_42 (dk_at dksX9_init_2_0 4 rfl rfl)
theorem dX9_init_2_5 : decode cX9_init_2 5 = .ok (.bipush 40, 2) := dk_16 40 (dk_at dksX9_init_2_0 5 rfl rfl)
theorem dX9_init_2_7 : decode cX9_init_2 7 = .ok (.newarray .int, 2) := dk_188_10 (dk_at dksX9_init_2_0 7 rfl rfl)
theorem dX9_init_2_9 : decode cX9_init_2 9 = .ok (.putfield 9, 3) := dk_181 0 9 (dk_at dksX9_init_2_0 9 rfl rfl)
theorem dX9_init_2_12 : decode cX9_init_2 12 = .ok (.aload_n 0, 1) := dk_42 (dk_at dksX9_init_2_0 12 rfl rfl)
theorem dX9_init_2_13 : decode cX9_init_2 13 = .ok (.bipush 40, 2) := dk_16 40 (dk_at dksX9_init_2_0 13 rfl rfl)
theorem dX9_init_2_15 : decode cX9_init_2 15 = .ok (.newarray .int, 2) := dk_188_10 (dk_at dksX9_init_2_0 15 rfl rfl)
theorem dX9_init_2_17 : decode cX9_init_2 17 = .ok (.putfield 15, 3) := dk_181 0 15 (dk_at dksX9_init_2_0 17 rfl rfl)
theorem dX9_init_2_20 : decode cX9_init_2 20 = .ok (.aload_n 0, 1) := dk_42 (dk_at dksX9_init_2_0 20 rfl rfl)
theorem dX9_init_2_21 : decode cX9_init_2 21 = .ok (.bipush 40, 2) := dk_16 40 (dk_at dksX9_init_2_0 21 rfl rfl)
theorem dX9_init_2_23 : decode cX9_init_2 23 = .ok (.newarray .float, 2) := dk_188_6 (dk_at dksX9_init_2_1 0 rfl rfl)
theorem dX9_init_2_25 : decode cX9_init_2 25 = .ok (.putfield 18, 3) := dk_181 0 18 (dk_at dksX9_init_2_1 2 rfl rfl)
theorem dX9_init_2_28 : decode cX9_init_2 28 = .ok (.iconst 0, 1) := dk_3 (dk_at dksX9_init_2_1 5 rfl rfl)
theorem dX9_init_2_29 : decode cX9_init_2 29 = .ok (.istore_n 1, 1) := dk_60 (dk_at dksX9_init_2_1 6 rfl rfl)
theorem dX9_init_2_30 : decode cX9_init_2 30 = .ok (.iload_n 1, 1) := dk_27 (dk_at dksX9_init_2_1 7 rfl rfl)
theorem dX9_init_2_31 : decode cX9_init_2 31 = .ok (.bipush 40, 2) := dk_16 40 (dk_at dksX9_init_2_1 8 rfl rfl)
theorem dX9_init_2_33 : decode cX9_init_2 33 = .ok (.if_icmp .ge 16, 3) := dk_162 0 16 (dk_at dksX9_init_2_1 10 rfl rfl)
theorem dX9_init_2_36 : decode cX9_init_2 36 = .ok (.aload_n 0, 1) := dk_42 (dk_at dksX9_init_2_1 13 rfl rfl)
theorem dX9_init_2_37 : decode cX9_init_2 37 = .ok (.getfield 9, 3) := dk_180 0 9 (dk_at dksX9_init_2_1 14 rfl rfl)
theorem dX9_init_2_40 : decode cX9_init_2 40 = .ok (.iload_n 1, 1) := dk_27 (dk_at dksX9_init_2_1 17 rfl rfl)
theorem dX9_init_2_41 : decode cX9_init_2 41 = .ok (.iconst (-1), 1) := dk_2 (dk_at dksX9_init_2_1 18 rfl rfl)
theorem dX9_init_2_42 : decode cX9_init_2 42 = .ok (.iastore, 1) := dk_79 (dk_at dksX9_init_2_1 19 rfl rfl)
theorem dX9_init_2_43 : decode cX9_init_2 43 = .ok (.iinc 1 1, 3) := dk_132 1 1 (dk_at dksX9_init_2_1 20 rfl rfl)
theorem dX9_init_2_46 : decode cX9_init_2 46 = .ok (.goto (-16), 3) := dk_167 255 240 (dk_at dksX9_init_2_2 0 rfl rfl)
theorem dX9_init_2_49 : decode cX9_init_2 49 = .ok (.return_, 1) := dk_177 (dk_at dksX9_init_2_2 3 rfl rfl)
theorem q95 : (Jvm.Cond.initialized "DiskPacks$Surface") ∈ lw_all := lw_g (lw_at lw_m1 26 rfl) rfl
theorem q910 : (Jvm.Cond.instanceMethod ({ cls := "DiskPacks$Surface", name := "write", desc := "(IIIF)V" } : Jvm.MethodName)) ∈ lw_all := lw_g (lw_at lw_m4 121 rfl) rfl
theorem q911 : (Jvm.Cond.selects "DiskPacks$Surface" ({ cls := "DiskPacks$Surface", name := "write", desc := "(IIIF)V" } : Jvm.MethodName) ({ cls := "DiskPacks$Surface", name := "write", desc := "(IIIF)V" } : Jvm.MethodName)) ∈ lw_all := lw_g (lw_at lw_m4 122 rfl) rfl
theorem q912 : (Jvm.Cond.code ({ cls := "DiskPacks$Surface", name := "write", desc := "(IIIF)V" } : Jvm.MethodName) prog_10_method_5_code (6 : Nat) (Option.none : Option Jvm.ClassFile.FieldType)) ∈ lw_all := lw_g (lw_at lw_m4 123 rfl) rfl
theorem q913 : (Jvm.Cond.methodLink "DiskPacks$Surface" (36 : Nat) ({ cls := "DiskPacks$Surface", name := "isEmpty", desc := "(I)Z" } : Jvm.MethodName)) ∈ lw_all := lw_g (lw_at lw_m4 124 rfl) rfl
theorem q914 : (Jvm.Cond.instanceMethod ({ cls := "DiskPacks$Surface", name := "isEmpty", desc := "(I)Z" } : Jvm.MethodName)) ∈ lw_all := lw_g (lw_at lw_m4 125 rfl) rfl
theorem q915 : (Jvm.Cond.selects "DiskPacks$Surface" ({ cls := "DiskPacks$Surface", name := "isEmpty", desc := "(I)Z" } : Jvm.MethodName) ({ cls := "DiskPacks$Surface", name := "isEmpty", desc := "(I)Z" } : Jvm.MethodName)) ∈ lw_all := lw_g (lw_at lw_m4 126 rfl) rfl
theorem q916 : (Jvm.Cond.code ({ cls := "DiskPacks$Surface", name := "isEmpty", desc := "(I)Z" } : Jvm.MethodName) prog_10_method_4_code (2 : Nat) (Option.some Jvm.ClassFile.FieldType.boolean)) ∈ lw_all := lw_g (lw_at lw_m4 127 rfl) rfl
theorem q917 : (Jvm.Cond.methodLinkNest "DiskPacks$Surface" (40 : Nat) ({ cls := "DiskPacks", name := "apart", desc := "(II)I" } : Jvm.MethodName) "DiskPacks") ∈ lw_tbl := lw_at lw_m4 128 rfl
theorem q920 : (Jvm.Cond.constantFloat "DiskPacks$Surface" (44 : Nat) (1061158912 : UInt32)) ∈ lw_all := lw_g (lw_at lw_m4 131 rfl) rfl
theorem q926 : (Jvm.Cond.instanceMethod ({ cls := "DiskPacks$Surface", name := "halve", desc := "(I)V" } : Jvm.MethodName)) ∈ lw_all := lw_g (lw_at lw_m4 137 rfl) rfl
theorem q927 : (Jvm.Cond.selects "DiskPacks$Surface" ({ cls := "DiskPacks$Surface", name := "halve", desc := "(I)V" } : Jvm.MethodName) ({ cls := "DiskPacks$Surface", name := "halve", desc := "(I)V" } : Jvm.MethodName)) ∈ lw_all := lw_g (lw_at lw_m4 138 rfl) rfl
theorem q928 : (Jvm.Cond.code ({ cls := "DiskPacks$Surface", name := "halve", desc := "(I)V" } : Jvm.MethodName) prog_10_method_8_code (2 : Nat) (Option.none : Option Jvm.ClassFile.FieldType)) ∈ lw_all := lw_g (lw_at lw_m4 139 rfl) rfl
theorem q962 : (Jvm.Cond.instanceMethod ({ cls := "DiskPacks$Surface", name := "signalAt", desc := "(II)F" } : Jvm.MethodName)) ∈ lw_all := lw_g (lw_at lw_m4 173 rfl) rfl
theorem q963 : (Jvm.Cond.selects "DiskPacks$Surface" ({ cls := "DiskPacks$Surface", name := "signalAt", desc := "(II)F" } : Jvm.MethodName) ({ cls := "DiskPacks$Surface", name := "signalAt", desc := "(II)F" } : Jvm.MethodName)) ∈ lw_all := lw_g (lw_at lw_m4 174 rfl) rfl
theorem q964 : (Jvm.Cond.code ({ cls := "DiskPacks$Surface", name := "signalAt", desc := "(II)F" } : Jvm.MethodName) prog_10_method_7_code (3 : Nat) (Option.some Jvm.ClassFile.FieldType.float)) ∈ lw_all := lw_g (lw_at lw_m4 175 rfl) rfl
theorem q965 : (Jvm.Cond.methodLink "DiskPacks$Surface" (46 : Nat) ({ cls := "DiskPacks$Surface", name := "signal", desc := "(FI)F" } : Jvm.MethodName)) ∈ lw_all := lw_g (lw_at lw_m4 176 rfl) rfl
theorem q966 : (Jvm.Cond.static ({ cls := "DiskPacks$Surface", name := "signal", desc := "(FI)F" } : Jvm.MethodName)) ∈ lw_all := lw_g (lw_at lw_m4 177 rfl) rfl
theorem q967 : (Jvm.Cond.code ({ cls := "DiskPacks$Surface", name := "signal", desc := "(FI)F" } : Jvm.MethodName) prog_10_method_6_code (3 : Nat) (Option.some Jvm.ClassFile.FieldType.float)) ∈ lw_all := lw_g (lw_at lw_m4 178 rfl) rfl
theorem q968 : (Jvm.Cond.constantFloat "DiskPacks$Surface" (45 : Nat) (1101004800 : UInt32)) ∈ lw_all := lw_g (lw_at lw_m4 179 rfl) rfl
theorem q1086 : (Jvm.Cond.instanceMethod ({ cls := "DiskPacks$Surface", name := "copy", desc := "()LDiskPacks$Surface;" } : Jvm.MethodName)) ∈ lw_all := lw_g (lw_at lw_m5 57 rfl) rfl
theorem q1087 : (Jvm.Cond.selects "DiskPacks$Surface" ({ cls := "DiskPacks$Surface", name := "copy", desc := "()LDiskPacks$Surface;" } : Jvm.MethodName) ({ cls := "DiskPacks$Surface", name := "copy", desc := "()LDiskPacks$Surface;" } : Jvm.MethodName)) ∈ lw_all := lw_g (lw_at lw_m5 58 rfl) rfl
theorem q1088 : (Jvm.Cond.code ({ cls := "DiskPacks$Surface", name := "copy", desc := "()LDiskPacks$Surface;" } : Jvm.MethodName) prog_10_method_3_code (1 : Nat) (Option.some (Jvm.ClassFile.FieldType.object "DiskPacks$Surface"))) ∈ lw_all := lw_g (lw_at lw_m5 59 rfl) rfl
theorem q1089 : (Jvm.Cond.classLink "DiskPacks$Surface" (10 : Nat) "DiskPacks$Surface") ∈ lw_all := lw_g (lw_at lw_m5 60 rfl) rfl
theorem q1090 : (Jvm.Cond.instantiable "DiskPacks$Surface" (4 : Nat)) ∈ lw_all := lw_g (lw_at lw_m5 61 rfl) rfl
theorem q1091 : (Jvm.Cond.methodLink "DiskPacks$Surface" (33 : Nat) ({ cls := "DiskPacks$Surface", name := "<init>", desc := "(LDiskPacks$Surface;)V" } : Jvm.MethodName)) ∈ lw_all := lw_g (lw_at lw_m5 62 rfl) rfl
theorem q1092 : (Jvm.Cond.instanceMethod ({ cls := "DiskPacks$Surface", name := "<init>", desc := "(LDiskPacks$Surface;)V" } : Jvm.MethodName)) ∈ lw_all := lw_g (lw_at lw_m5 63 rfl) rfl
theorem q1093 : (Jvm.Cond.code ({ cls := "DiskPacks$Surface", name := "<init>", desc := "(LDiskPacks$Surface;)V" } : Jvm.MethodName) prog_10_method_2_code (2 : Nat) (Option.none : Option Jvm.ClassFile.FieldType)) ∈ lw_all := lw_g (lw_at lw_m5 64 rfl) rfl
theorem q1094 : (Jvm.Cond.methodLink "DiskPacks$Surface" (3 : Nat) ({ cls := "java/lang/Object", name := "<init>", desc := "()V" } : Jvm.MethodName)) ∈ lw_all := lw_g (lw_at lw_m5 65 rfl) rfl
theorem q1095 : (Jvm.Cond.methodLink "DiskPacks$Surface" (22 : Nat) ({ cls := "[I", name := "clone", desc := "()Ljava/lang/Object;" } : Jvm.MethodName)) ∈ lw_all := lw_g (lw_at lw_m5 66 rfl) rfl
theorem q1096 : (Jvm.Cond.classLink "DiskPacks$Surface" (23 : Nat) "[I") ∈ lw_all := lw_g (lw_at lw_m5 67 rfl) rfl
theorem q1097 : (Jvm.Cond.methodLink "DiskPacks$Surface" (27 : Nat) ({ cls := "[F", name := "clone", desc := "()Ljava/lang/Object;" } : Jvm.MethodName)) ∈ lw_all := lw_g (lw_at lw_m5 68 rfl) rfl
theorem q1101 : (Jvm.Cond.classLink "DiskPacks$Surface" (28 : Nat) "[F") ∈ lw_all := lw_g (lw_at lw_m5 72 rfl) rfl
theorem q1102 : (Jvm.Cond.fieldLink "DiskPacks$Surface" (9 : Nat) "DiskPacks$Surface" "values" "[I") ∈ lw_all := lw_g (lw_at lw_m5 73 rfl) rfl
theorem q1105 : (Jvm.Cond.fieldLink "DiskPacks$Surface" (15 : Nat) "DiskPacks$Surface" "positions" "[I") ∈ lw_all := lw_g (lw_at lw_m5 76 rfl) rfl
theorem q1108 : (Jvm.Cond.fieldLink "DiskPacks$Surface" (18 : Nat) "DiskPacks$Surface" "strengths" "[F") ∈ lw_all := lw_g (lw_at lw_m5 79 rfl) rfl
theorem q1111 : (Jvm.Cond.fieldLink "DiskPacks$Surface" (29 : Nat) "DiskPacks$Surface" "isScratched" "Z") ∈ lw_all := lw_g (lw_at lw_m5 82 rfl) rfl
theorem q1115 : (Jvm.Cond.laysFinal "DiskPacks$Surface" "DiskPacks$Surface" "values" "[I") ∈ lw_all := lw_g (lw_at lw_m5 86 rfl) rfl
theorem q1116 : (Jvm.Cond.soleField "DiskPacks$Surface" "values") ∈ lw_all := lw_g (lw_at lw_m5 87 rfl) rfl
theorem q1117 : (Jvm.Cond.laysFinal "DiskPacks$Surface" "DiskPacks$Surface" "positions" "[I") ∈ lw_all := lw_g (lw_at lw_m5 88 rfl) rfl
theorem q1118 : (Jvm.Cond.soleField "DiskPacks$Surface" "positions") ∈ lw_all := lw_g (lw_at lw_m5 89 rfl) rfl
theorem q1119 : (Jvm.Cond.laysFinal "DiskPacks$Surface" "DiskPacks$Surface" "strengths" "[F") ∈ lw_all := lw_g (lw_at lw_m5 90 rfl) rfl
theorem q1120 : (Jvm.Cond.soleField "DiskPacks$Surface" "strengths") ∈ lw_all := lw_g (lw_at lw_m5 91 rfl) rfl
theorem q1121 : (Jvm.Cond.lays "DiskPacks$Surface" "DiskPacks$Surface" "isScratched" "Z") ∈ lw_all := lw_g (lw_at lw_m5 92 rfl) rfl
theorem q1122 : (Jvm.Cond.soleField "DiskPacks$Surface" "isScratched") ∈ lw_all := lw_g (lw_at lw_m5 93 rfl) rfl
theorem q1123 : (Jvm.Cond.superclass "DiskPacks$Surface" "java/lang/Object") ∈ lw_all := lw_g (lw_at lw_m5 94 rfl) rfl
theorem q1175 : (Jvm.Cond.selects "DiskPacks$Surface" ({ cls := "java/lang/Object", name := "getClass", desc := "()Ljava/lang/Class;" } : Jvm.MethodName) ({ cls := "java/lang/Object", name := "getClass", desc := "()Ljava/lang/Class;" } : Jvm.MethodName)) ∈ lw_all := lw_g (lw_at lw_m5 146 rfl) rfl
theorem q1347 : (Jvm.Cond.instanceMethod ({ cls := "DiskPacks$Surface", name := "<init>", desc := "()V" } : Jvm.MethodName)) ∈ lw_all := lw_g (lw_at lw_m6 78 rfl) rfl
theorem q1348 : (Jvm.Cond.code ({ cls := "DiskPacks$Surface", name := "<init>", desc := "()V" } : Jvm.MethodName) prog_10_method_1_code (2 : Nat) (Option.none : Option Jvm.ClassFile.FieldType)) ∈ lw_all := lw_g (lw_at lw_m6 79 rfl) rfl
theorem q2170 : (Jvm.Cond.castable "DiskPacks$Surface" "java/lang/Object") ∈ lw_tbl := lw_at lw_m9 181 rfl
theorem in_X9 : ∀ w ∈ wsX90, w ∈ lw_all := lw_in wsX90 [1115, 1117, 1119, 1121] (by decide +kernel) (by decide +kernel)
/-! DiskPacks$Drive -/
set_option maxRecDepth 100000
def RX3 : String := "DiskPacks$Drive"
def TX3 : u_T := fun k => match k with
  | 0 => ("DiskPacks$Drive", "dataHeads", "[LDiskPacks$Head;", true)
  | 1 => ("DiskPacks$Drive", "servoHead", "LDiskPacks$Head;", true)
  | 2 => ("DiskPacks$Drive", "learned", "[I", true)
  | 3 => ("DiskPacks$Drive", "warmth", "I", false)
  | 4 => ("DiskPacks$Drive", "cylinder", "I", false)
  | 5 => ("DiskPacks$Drive", "isServoOn", "Z", false)
  | _ => ("DiskPacks$Drive", "pack", "I", false)
def tyX3 : Nat → FieldType := fun k => match k with
  | 0 => .array (.object "DiskPacks$Head")
  | 1 => .object "DiskPacks$Head"
  | 2 => .array .int
  | 3 => .int
  | 4 => .int
  | 5 => .boolean
  | _ => .int
abbrev wsX30 : List Cond := u_ws RX3 TX3 7
theorem nmX3 : ∀ a, a < 7 → ∀ b, b < 7 → a ≠ b → (TX3 a).2.1 ≠ (TX3 b).2.1 := by decide +kernel
theorem tyX3_ok : ∀ k, k < 7 → parseFieldDescriptor (TX3 k).2.2.1 = some (tyX3 k) := by decide +kernel
abbrev cX3_init : ByteArray := prog_3_method_1_code
def yX3_init : MethodName := ⟨RX3, "<init>", "()V"⟩
def dkwX3_init_2 : List UInt8 := [180, 0, 11, 27, 187, 0, 9, 89, 183, 0, 32, 184, 0, 33, 87, 132, 1, 1, 167, 255, 232, 177]
abbrev dktX3_init_2 : List UInt8 := dkwX3_init_2 ++ []
def dkwX3_init_1 : List UInt8 := [181, 0, 21, 42, 187, 0, 25, 89, 183, 0, 27, 181, 0, 28, 3, 60, 27, 6, 162, 0, 25, 42]
abbrev dktX3_init_1 : List UInt8 := dkwX3_init_1 ++ dktX3_init_2
def dkwX3_init_0 : List UInt8 := [42, 183, 0, 3, 42, 6, 189, 0, 9, 181, 0, 11, 42, 2, 181, 0, 17, 42, 16, 6, 188, 10]
abbrev dktX3_init_0 : List UInt8 := dkwX3_init_0 ++ dktX3_init_1
theorem dksX3_init_0 : cX3_init.data.toList.drop 0 = dktX3_init_0 := by decide +kernel
theorem dksX3_init_1 : cX3_init.data.toList.drop 22 = dktX3_init_1 := dk_seg dksX3_init_0 22 rfl rfl
theorem dksX3_init_2 : cX3_init.data.toList.drop 44 = dktX3_init_2 := dk_seg dksX3_init_1 22 rfl rfl
theorem dX3_init_0 : decode cX3_init 0 = .ok (.aload_n 0, 1) := dk_42 (dk_at dksX3_init_0 0 rfl rfl)
theorem dX3_init_1 : decode cX3_init 1 = .ok (.invokespecial 3, 3) := dk_183 0 3 (dk_at dksX3_init_0 1 rfl rfl)
theorem dX3_init_4 : decode cX3_init 4 = .ok (.aload_n 0, 1) := dk_42 (dk_at dksX3_init_0 4 rfl rfl)
theorem dX3_init_5 : decode cX3_init 5 = .ok (.iconst 3, 1) := dk_6 (dk_at dksX3_init_0 5 rfl rfl)
theorem dX3_init_6 : decode cX3_init 6 = .ok (.anewarray 9, 3) := dk_189 0 9 (dk_at dksX3_init_0 6 rfl rfl)
theorem dX3_init_9 : decode cX3_init 9 = .ok (.putfield 11, 3) := dk_181 0 11 (dk_at dksX3_init_0 9 rfl rfl)
theorem dX3_init_12 : decode cX3_init 12 = .ok (.aload_n 0, 1) := dk_42 (dk_at dksX3_init_0 12 rfl rfl)
theorem dX3_init_13 : decode cX3_init 13 = .ok (.iconst (-1), 1) := dk_2 (dk_at dksX3_init_0 13 rfl rfl)
theorem dX3_init_14 : decode cX3_init 14 = .ok (.putfield 17, 3) := dk_181 0 17 (dk_at dksX3_init_0 14 rfl rfl)
theorem dX3_init_17 : decode cX3_init 17 = .ok (.aload_n 0, 1) := dk_42 (dk_at dksX3_init_0 17 rfl rfl)
theorem dX3_init_18 : decode cX3_init 18 = .ok (.bipush 6, 2) := dk_16 6 (dk_at dksX3_init_0 18 rfl rfl)
theorem dX3_init_20 : decode cX3_init 20 = .ok (.newarray .int, 2) := dk_188_10 (dk_at dksX3_init_0 20 rfl rfl)
theorem dX3_init_22 : decode cX3_init 22 = .ok (.putfield 21, 3) := dk_181 0 21 (dk_at dksX3_init_1 0 rfl rfl)
theorem dX3_init_25 : decode cX3_init 25 = .ok (.aload_n 0, 1) := dk_42 (dk_at dksX3_init_1 3 rfl rfl)
theorem dX3_init_26 : decode cX3_init 26 = .ok (.new 25, 3) := dk_187 0 25 (dk_at dksX3_init_1 4 rfl rfl)
theorem dX3_init_29 : decode cX3_init 29 = .ok (.dup, 1) := dk_89 (dk_at dksX3_init_1 7 rfl rfl)
theorem dX3_init_30 : decode cX3_init 30 = .ok (.invokespecial 27, 3) := dk_183 0 27 (dk_at dksX3_init_1 8 rfl rfl)
theorem dX3_init_33 : decode cX3_init 33 = .ok (.putfield 28, 3) := dk_181 0 28 (dk_at dksX3_init_1 11 rfl rfl)
theorem dX3_init_36 : decode cX3_init 36 = .ok (.iconst 0, 1) := dk_3 (dk_at dksX3_init_1 14 rfl rfl)
theorem dX3_init_37 : decode cX3_init 37 = .ok (.istore_n 1, 1) := dk_60 (dk_at dksX3_init_1 15 rfl rfl)
theorem dX3_init_38 : decode cX3_init 38 = .ok (.iload_n 1, 1) := dk_27 (dk_at dksX3_init_1 16 rfl rfl)
theorem dX3_init_39 : decode cX3_init 39 = .ok (.iconst 3, 1) := dk_6 (dk_at dksX3_init_1 17 rfl rfl)
theorem dX3_init_40 : decode cX3_init 40 = .ok (.if_icmp .ge 25, 3) := dk_162 0 25 (dk_at dksX3_init_1 18 rfl rfl)
theorem dX3_init_43 : decode cX3_init 43 = .ok (.aload_n 0, 1) := dk_42 (dk_at dksX3_init_1 21 rfl rfl)
theorem dX3_init_44 : decode cX3_init 44 = .ok (.getfield 11, 3) := dk_180 0 11 (dk_at dksX3_init_2 0 rfl rfl)
theorem dX3_init_47 : decode cX3_init 47 = .ok (.iload_n 1, 1) := dk_27 (dk_at dksX3_init_2 3 rfl rfl)
theorem dX3_init_48 : decode cX3_init 48 = .ok (.new 9, 3) := dk_187 0 9 (dk_at dksX3_init_2 4 rfl rfl)
theorem dX3_init_51 : decode cX3_init 51 = .ok (.dup, 1) := dk_89 (dk_at dksX3_init_2 7 rfl rfl)
theorem dX3_init_52 : decode cX3_init 52 = .ok (.invokespecial 32, 3) := dk_183 0 32 (dk_at dksX3_init_2 8 rfl rfl)
theorem dX3_init_55 : decode cX3_init 55 = .ok (.invokestatic 33, 3) := dk_184 0 33 (dk_at dksX3_init_2 11 rfl rfl)
theorem dX3_init_58 : decode cX3_init 58 = .ok (.pop, 1) := dk_87 (dk_at dksX3_init_2 14 rfl rfl)
theorem dX3_init_59 : decode cX3_init 59 = .ok (.iinc 1 1, 3) := dk_132 1 1 (dk_at dksX3_init_2 15 rfl rfl)
theorem dX3_init_62 : decode cX3_init 62 = .ok (.goto (-24), 3) := dk_167 255 232 (dk_at dksX3_init_2 18 rfl rfl)
theorem dX3_init_65 : decode cX3_init 65 = .ok (.return_, 1) := dk_177 (dk_at dksX3_init_2 21 rfl rfl)
abbrev cX3_dataHead : ByteArray := prog_3_method_5_code
def yX3_dataHead : MethodName := ⟨RX3, "dataHead", "(I)LDiskPacks$DataHead;"⟩
def dkwX3_dataHead_0 : List UInt8 := [42, 27, 182, 0, 61, 77, 44, 193, 0, 9, 153, 0, 12, 44, 192, 0, 9, 78, 45, 167, 0, 4, 1, 176]
abbrev dktX3_dataHead_0 : List UInt8 := dkwX3_dataHead_0 ++ []
theorem dksX3_dataHead_0 : cX3_dataHead.data.toList.drop 0 = dktX3_dataHead_0 := by decide +kernel
theorem dX3_dataHead_0 : decode cX3_dataHead 0 = .ok (.aload_n 0, 1) := dk_42 (dk_at dksX3_dataHead_0 0 rfl rfl)
theorem dX3_dataHead_1 : decode cX3_dataHead 1 = .ok (.iload_n 1, 1) := dk_27 (dk_at dksX3_dataHead_0 1 rfl rfl)
theorem dX3_dataHead_2 : decode cX3_dataHead 2 = .ok (.invokevirtual 61, 3) := dk_182 0 61 (dk_at dksX3_dataHead_0 2 rfl rfl)
theorem dX3_dataHead_5 : decode cX3_dataHead 5 = .ok (.astore_n 2, 1) := dk_77 (dk_at dksX3_dataHead_0 5 rfl rfl)
theorem dX3_dataHead_6 : decode cX3_dataHead 6 = .ok (.aload_n 2, 1) := dk_44 (dk_at dksX3_dataHead_0 6 rfl rfl)
theorem dX3_dataHead_7 : decode cX3_dataHead 7 = .ok (.instanceof 9, 3) := dk_193 0 9 (dk_at dksX3_dataHead_0 7 rfl rfl)
theorem dX3_dataHead_10 : decode cX3_dataHead 10 = .ok (.ifCond .eq 12, 3) := dk_153 0 12 (dk_at dksX3_dataHead_0 10 rfl rfl)
theorem dX3_dataHead_13 : decode cX3_dataHead 13 = .ok (.aload_n 2, 1) := dk_44 (dk_at dksX3_dataHead_0 13 rfl rfl)
theorem dX3_dataHead_14 : decode cX3_dataHead 14 = .ok (.checkcast 9, 3) := dk_192 0 9 (dk_at dksX3_dataHead_0 14 rfl rfl)
theorem dX3_dataHead_17 : decode cX3_dataHead 17 = .ok (.astore_n 3, 1) := dk_78 (dk_at dksX3_dataHead_0 17 rfl rfl)
theorem dX3_dataHead_18 : decode cX3_dataHead 18 = .ok (.aload_n 3, 1) := dk_45 (dk_at dksX3_dataHead_0 18 rfl rfl)
theorem dX3_dataHead_19 : decode cX3_dataHead 19 = .ok (.goto 4, 3) := dk_167 0 4 (dk_at dksX3_dataHead_0 19 rfl rfl)
theorem dX3_dataHead_22 : decode cX3_dataHead 22 = .ok (.aconst_null, 1) := dk_1 (dk_at dksX3_dataHead_0 22 rfl rfl)
theorem dX3_dataHead_23 : decode cX3_dataHead 23 = .ok (.areturn, 1) := dk_176 (dk_at dksX3_dataHead_0 23 rfl rfl)
abbrev cX3_head : ByteArray := prog_3_method_4_code
def yX3_head : MethodName := ⟨RX3, "head", "(I)LDiskPacks$Head;"⟩
def dkwX3_head_0 : List UInt8 := [27, 6, 160, 0, 10, 42, 180, 0, 28, 167, 0, 9, 42, 180, 0, 11, 27, 50, 176]
abbrev dktX3_head_0 : List UInt8 := dkwX3_head_0 ++ []
theorem dksX3_head_0 : cX3_head.data.toList.drop 0 = dktX3_head_0 := by decide +kernel
theorem dX3_head_0 : decode cX3_head 0 = .ok (.iload_n 1, 1) := dk_27 (dk_at dksX3_head_0 0 rfl rfl)
theorem dX3_head_1 : decode cX3_head 1 = .ok (.iconst 3, 1) := dk_6 (dk_at dksX3_head_0 1 rfl rfl)
theorem dX3_head_2 : decode cX3_head 2 = .ok (.if_icmp .ne 10, 3) := dk_160 0 10 (dk_at dksX3_head_0 2 rfl rfl)
theorem dX3_head_5 : decode cX3_head 5 = .ok (.aload_n 0, 1) := dk_42 (dk_at dksX3_head_0 5 rfl rfl)
theorem dX3_head_6 : decode cX3_head 6 = .ok (.getfield 28, 3) := dk_180 0 28 (dk_at dksX3_head_0 6 rfl rfl)
theorem dX3_head_9 : decode cX3_head 9 = .ok (.goto 9, 3) := dk_167 0 9 (dk_at dksX3_head_0 9 rfl rfl)
theorem dX3_head_12 : decode cX3_head 12 = .ok (.aload_n 0, 1) := dk_42 (dk_at dksX3_head_0 12 rfl rfl)
theorem dX3_head_13 : decode cX3_head 13 = .ok (.getfield 11, 3) := dk_180 0 11 (dk_at dksX3_head_0 13 rfl rfl)
theorem dX3_head_16 : decode cX3_head 16 = .ok (.iload_n 1, 1) := dk_27 (dk_at dksX3_head_0 16 rfl rfl)
theorem dX3_head_17 : decode cX3_head 17 = .ok (.aaload, 1) := dk_50 (dk_at dksX3_head_0 17 rfl rfl)
theorem dX3_head_18 : decode cX3_head 18 = .ok (.areturn, 1) := dk_176 (dk_at dksX3_head_0 18 rfl rfl)
abbrev cX3_place : ByteArray := prog_3_method_7_code
def yX3_place : MethodName := ⟨RX3, "place", "(IIII)I"⟩
def dkwX3_place_2 : List UInt8 := [21, 5, 96, 172]
abbrev dktX3_place_2 : List UInt8 := dkwX3_place_2 ++ []
def dkwX3_place_1 : List UInt8 := [54, 5, 16, 100, 29, 104, 42, 180, 0, 11, 27, 50, 180, 0, 71, 96, 42, 180, 0, 21, 28, 46, 96]
abbrev dktX3_place_1 : List UInt8 := dkwX3_place_1 ++ dktX3_place_2
def dkwX3_place_0 : List UInt8 := [42, 180, 0, 54, 153, 0, 16, 21, 4, 42, 180, 0, 28, 180, 0, 71, 100, 167, 0, 7, 42, 180, 0, 48]
abbrev dktX3_place_0 : List UInt8 := dkwX3_place_0 ++ dktX3_place_1
theorem dksX3_place_0 : cX3_place.data.toList.drop 0 = dktX3_place_0 := by decide +kernel
theorem dksX3_place_1 : cX3_place.data.toList.drop 24 = dktX3_place_1 := dk_seg dksX3_place_0 24 rfl rfl
theorem dksX3_place_2 : cX3_place.data.toList.drop 47 = dktX3_place_2 := dk_seg dksX3_place_1 23 rfl rfl
theorem dX3_place_0 : decode cX3_place 0 = .ok (.aload_n 0, 1) := dk_42 (dk_at dksX3_place_0 0 rfl rfl)
theorem dX3_place_1 : decode cX3_place 1 = .ok (.getfield 54, 3) := dk_180 0 54 (dk_at dksX3_place_0 1 rfl rfl)
theorem dX3_place_4 : decode cX3_place 4 = .ok (.ifCond .eq 16, 3) := dk_153 0 16 (dk_at dksX3_place_0 4 rfl rfl)
theorem dX3_place_7 : decode cX3_place 7 = .ok (.iload 4, 2) := dk_21 4 (dk_at dksX3_place_0 7 rfl rfl)
theorem dX3_place_9 : decode cX3_place 9 = .ok (.aload_n 0, 1) := dk_42 (dk_at dksX3_place_0 9 rfl rfl)
theorem dX3_place_10 : decode cX3_place 10 = .ok (.getfield 28, 3) := dk_180 0 28 (dk_at dksX3_place_0 10 rfl rfl)
theorem dX3_place_13 : decode cX3_place 13 = .ok (.getfield 71, 3) := dk_180 0 71 (dk_at dksX3_place_0 13 rfl rfl)
theorem dX3_place_16 : decode cX3_place 16 = .ok (.isub, 1) := dk_100 (dk_at dksX3_place_0 16 rfl rfl)
theorem dX3_place_17 : decode cX3_place 17 = .ok (.goto 7, 3) := dk_167 0 7 (dk_at dksX3_place_0 17 rfl rfl)
theorem dX3_place_20 : decode cX3_place 20 = .ok (.aload_n 0, 1) := dk_42 (dk_at dksX3_place_0 20 rfl rfl)
theorem dX3_place_21 : decode cX3_place 21 = .ok (.getfield 48, 3) := dk_180 0 48 (dk_at dksX3_place_0 21 rfl rfl)
theorem dX3_place_24 : decode cX3_place 24 = .ok (.istore 5, 2) := dk_54 5 (dk_at dksX3_place_1 0 rfl rfl)
theorem dX3_place_26 : decode cX3_place 26 = .ok (.bipush 100, 2) := dk_16 100 (dk_at dksX3_place_1 2 rfl rfl)
theorem dX3_place_28 : decode cX3_place 28 = .ok (.iload_n 3, 1) := dk_29 (dk_at dksX3_place_1 4 rfl rfl)
theorem dX3_place_29 : decode cX3_place 29 = .ok (.imul, 1) := dk_104 (dk_at dksX3_place_1 5 rfl rfl)
theorem dX3_place_30 : decode cX3_place 30 = .ok (.aload_n 0, 1) := dk_42 (dk_at dksX3_place_1 6 rfl rfl)
theorem dX3_place_31 : decode cX3_place 31 = .ok (.getfield 11, 3) := dk_180 0 11 (dk_at dksX3_place_1 7 rfl rfl)
theorem dX3_place_34 : decode cX3_place 34 = .ok (.iload_n 1, 1) := dk_27 (dk_at dksX3_place_1 10 rfl rfl)
theorem dX3_place_35 : decode cX3_place 35 = .ok (.aaload, 1) := dk_50 (dk_at dksX3_place_1 11 rfl rfl)
theorem dX3_place_36 : decode cX3_place 36 = .ok (.getfield 71, 3) := dk_180 0 71 (dk_at dksX3_place_1 12 rfl rfl)
theorem dX3_place_39 : decode cX3_place 39 = .ok (.iadd, 1) := dk_96 (dk_at dksX3_place_1 15 rfl rfl)
theorem dX3_place_40 : decode cX3_place 40 = .ok (.aload_n 0, 1) := dk_42 (dk_at dksX3_place_1 16 rfl rfl)
theorem dX3_place_41 : decode cX3_place 41 = .ok (.getfield 21, 3) := dk_180 0 21 (dk_at dksX3_place_1 17 rfl rfl)
theorem dX3_place_44 : decode cX3_place 44 = .ok (.iload_n 2, 1) := dk_28 (dk_at dksX3_place_1 20 rfl rfl)
theorem dX3_place_45 : decode cX3_place 45 = .ok (.iaload, 1) := dk_46 (dk_at dksX3_place_1 21 rfl rfl)
theorem dX3_place_46 : decode cX3_place 46 = .ok (.iadd, 1) := dk_96 (dk_at dksX3_place_1 22 rfl rfl)
theorem dX3_place_47 : decode cX3_place 47 = .ok (.iload 5, 2) := dk_21 5 (dk_at dksX3_place_2 0 rfl rfl)
theorem dX3_place_49 : decode cX3_place 49 = .ok (.iadd, 1) := dk_96 (dk_at dksX3_place_2 2 rfl rfl)
theorem dX3_place_50 : decode cX3_place 50 = .ok (.ireturn, 1) := dk_172 (dk_at dksX3_place_2 3 rfl rfl)
abbrev cX3_learn : ByteArray := prog_3_method_8_code
def yX3_learn : MethodName := ⟨RX3, "learn", "(II)V"⟩
def dkwX3_learn_1 : List UInt8 := [167, 0, 15, 29, 16, 216, 162, 0, 8, 16, 216, 167, 0, 4, 29, 79, 177]
abbrev dktX3_learn_1 : List UInt8 := dkwX3_learn_1 ++ []
def dkwX3_learn_0 : List UInt8 := [42, 180, 0, 21, 27, 46, 28, 96, 62, 42, 180, 0, 21, 27, 29, 16, 40, 164, 0, 8, 16, 40]
abbrev dktX3_learn_0 : List UInt8 := dkwX3_learn_0 ++ dktX3_learn_1
theorem dksX3_learn_0 : cX3_learn.data.toList.drop 0 = dktX3_learn_0 := by decide +kernel
theorem dksX3_learn_1 : cX3_learn.data.toList.drop 22 = dktX3_learn_1 := dk_seg dksX3_learn_0 22 rfl rfl
theorem dX3_learn_0 : decode cX3_learn 0 = .ok (.aload_n 0, 1) := dk_42 (dk_at dksX3_learn_0 0 rfl rfl)
theorem dX3_learn_1 : decode cX3_learn 1 = .ok (.getfield 21, 3) := dk_180 0 21 (dk_at dksX3_learn_0 1 rfl rfl)
theorem dX3_learn_4 : decode cX3_learn 4 = .ok (.iload_n 1, 1) := dk_27 (dk_at dksX3_learn_0 4 rfl rfl)
theorem dX3_learn_5 : decode cX3_learn 5 = .ok (.iaload, 1) := dk_46 (dk_at dksX3_learn_0 5 rfl rfl)
theorem dX3_learn_6 : decode cX3_learn 6 = .ok (.iload_n 2, 1) := dk_28 (dk_at dksX3_learn_0 6 rfl rfl)
theorem dX3_learn_7 : decode cX3_learn 7 = .ok (.iadd, 1) := dk_96 (dk_at dksX3_learn_0 7 rfl rfl)
theorem dX3_learn_8 : decode cX3_learn 8 = .ok (.istore_n 3, 1) := dk_62 (dk_at dksX3_learn_0 8 rfl rfl)
theorem dX3_learn_9 : decode cX3_learn 9 = .ok (.aload_n 0, 1) := dk_42 (dk_at dksX3_learn_0 9 rfl rfl)
theorem dX3_learn_10 : decode cX3_learn 10 = .ok (.getfield 21, 3) := dk_180 0 21 (dk_at dksX3_learn_0 10 rfl rfl)
theorem dX3_learn_13 : decode cX3_learn 13 = .ok (.iload_n 1, 1) := dk_27 (dk_at dksX3_learn_0 13 rfl rfl)
theorem dX3_learn_14 : decode cX3_learn 14 = .ok (.iload_n 3, 1) := dk_29 (dk_at dksX3_learn_0 14 rfl rfl)
theorem dX3_learn_15 : decode cX3_learn 15 = .ok (.bipush 40, 2) := dk_16 40 (dk_at dksX3_learn_0 15 rfl rfl)
theorem dX3_learn_17 : decode cX3_learn 17 = .ok (.if_icmp .le 8, 3) := dk_164 0 8 (dk_at dksX3_learn_0 17 rfl rfl)
theorem dX3_learn_20 : decode cX3_learn 20 = .ok (.bipush 40, 2) := dk_16 40 (dk_at dksX3_learn_0 20 rfl rfl)
theorem dX3_learn_22 : decode cX3_learn 22 = .ok (.goto 15, 3) := dk_167 0 15 (dk_at dksX3_learn_1 0 rfl rfl)
theorem dX3_learn_25 : decode cX3_learn 25 = .ok (.iload_n 3, 1) := dk_29 (dk_at dksX3_learn_1 3 rfl rfl)
theorem dX3_learn_26 : decode cX3_learn 26 = .ok (.bipush (-40), 2) := dk_16 216 (dk_at dksX3_learn_1 4 rfl rfl)
theorem dX3_learn_28 : decode cX3_learn 28 = .ok (.if_icmp .ge 8, 3) := dk_162 0 8 (dk_at dksX3_learn_1 6 rfl rfl)
theorem dX3_learn_31 : decode cX3_learn 31 = .ok (.bipush (-40), 2) := dk_16 216 (dk_at dksX3_learn_1 9 rfl rfl)
theorem dX3_learn_33 : decode cX3_learn 33 = .ok (.goto 4, 3) := dk_167 0 4 (dk_at dksX3_learn_1 11 rfl rfl)
theorem dX3_learn_36 : decode cX3_learn 36 = .ok (.iload_n 3, 1) := dk_29 (dk_at dksX3_learn_1 14 rfl rfl)
theorem dX3_learn_37 : decode cX3_learn 37 = .ok (.iastore, 1) := dk_79 (dk_at dksX3_learn_1 15 rfl rfl)
theorem dX3_learn_38 : decode cX3_learn 38 = .ok (.return_, 1) := dk_177 (dk_at dksX3_learn_1 16 rfl rfl)
abbrev cX3_copy : ByteArray := prog_3_method_3_code
def yX3_copy : MethodName := ⟨RX3, "copy", "()LDiskPacks$Drive;"⟩
def dkwX3_copy_0 : List UInt8 := [187, 0, 12, 89, 42, 183, 0, 58, 176]
abbrev dktX3_copy_0 : List UInt8 := dkwX3_copy_0 ++ []
theorem dksX3_copy_0 : cX3_copy.data.toList.drop 0 = dktX3_copy_0 := by decide +kernel
theorem dX3_copy_0 : decode cX3_copy 0 = .ok (.new 12, 3) := dk_187 0 12 (dk_at dksX3_copy_0 0 rfl rfl)
theorem dX3_copy_3 : decode cX3_copy 3 = .ok (.dup, 1) := dk_89 (dk_at dksX3_copy_0 3 rfl rfl)
theorem dX3_copy_4 : decode cX3_copy 4 = .ok (.aload_n 0, 1) := dk_42 (dk_at dksX3_copy_0 4 rfl rfl)
theorem dX3_copy_5 : decode cX3_copy 5 = .ok (.invokespecial 58, 3) := dk_183 0 58 (dk_at dksX3_copy_0 5 rfl rfl)
theorem dX3_copy_8 : decode cX3_copy 8 = .ok (.areturn, 1) := dk_176 (dk_at dksX3_copy_0 8 rfl rfl)
abbrev cX3_init_2 : ByteArray := prog_3_method_2_code
def yX3_init_2 : MethodName := ⟨RX3, "<init>", "(LDiskPacks$Drive;)V"⟩
def dkwX3_init_2_4 : List UInt8 := [181, 0, 54, 42, 43, 180, 0, 17, 181, 0, 17, 177]
abbrev dktX3_init_2_4 : List UInt8 := dkwX3_init_2_4 ++ []
def dkwX3_init_2_3 : List UInt8 := [167, 255, 230, 42, 43, 180, 0, 48, 181, 0, 48, 42, 43, 180, 0, 51, 181, 0, 51, 42, 43, 180, 0, 54]
abbrev dktX3_init_2_3 : List UInt8 := dkwX3_init_2_3 ++ dktX3_init_2_4
def dkwX3_init_2_2 : List UInt8 := [162, 0, 27, 42, 180, 0, 11, 28, 43, 180, 0, 11, 28, 50, 182, 0, 42, 184, 0, 33, 87, 132, 2, 1]
abbrev dktX3_init_2_2 : List UInt8 := dkwX3_init_2_2 ++ dktX3_init_2_3
def dkwX3_init_2_1 : List UInt8 := [182, 0, 37, 192, 0, 38, 181, 0, 21, 42, 43, 180, 0, 28, 182, 0, 42, 181, 0, 28, 3, 61, 28, 6]
abbrev dktX3_init_2_1 : List UInt8 := dkwX3_init_2_1 ++ dktX3_init_2_2
def dkwX3_init_2_0 : List UInt8 := [42, 183, 0, 3, 42, 6, 189, 0, 9, 181, 0, 11, 42, 2, 181, 0, 17, 42, 43, 180, 0, 21]
abbrev dktX3_init_2_0 : List UInt8 := dkwX3_init_2_0 ++ dktX3_init_2_1
theorem dksX3_init_2_0 : cX3_init_2.data.toList.drop 0 = dktX3_init_2_0 := by decide +kernel
theorem dksX3_init_2_1 : cX3_init_2.data.toList.drop 22 = dktX3_init_2_1 := dk_seg dksX3_init_2_0 22 rfl rfl
theorem dksX3_init_2_2 : cX3_init_2.data.toList.drop 46 = dktX3_init_2_2 := dk_seg dksX3_init_2_1 24 rfl rfl
theorem dksX3_init_2_3 : cX3_init_2.data.toList.drop 70 = dktX3_init_2_3 := dk_seg dksX3_init_2_2 24 rfl rfl
theorem dksX3_init_2_4 : cX3_init_2.data.toList.drop 94 = dktX3_init_2_4 := dk_seg dksX3_init_2_3 24 rfl rfl
theorem dX3_init_2_0 : decode cX3_init_2 0 = .ok (.aload_n 0, 1) := dk_42 (dk_at dksX3_init_2_0 0 rfl rfl)
theorem dX3_init_2_1 : decode cX3_init_2 1 = .ok (.invokespecial 3, 3) := dk_183 0 3 (dk_at dksX3_init_2_0 1 rfl rfl)
theorem dX3_init_2_4 : decode cX3_init_2 4 = .ok (.aload_n 0, 1) := dk_42 (dk_at dksX3_init_2_0 4 rfl rfl)
theorem dX3_init_2_5 : decode cX3_init_2 5 = .ok (.iconst 3, 1) := dk_6 (dk_at dksX3_init_2_0 5 rfl rfl)
theorem dX3_init_2_6 : decode cX3_init_2 6 = .ok (.anewarray 9, 3) := dk_189 0 9 (dk_at dksX3_init_2_0 6 rfl rfl)
theorem dX3_init_2_9 : decode cX3_init_2 9 = .ok (.putfield 11, 3) := dk_181 0 11 (dk_at dksX3_init_2_0 9 rfl rfl)
theorem dX3_init_2_12 : decode cX3_init_2 12 = .ok (.aload_n 0, 1) := dk_42 (dk_at dksX3_init_2_0 12 rfl rfl)
theorem dX3_init_2_13 : decode cX3_init_2 13 = .ok (.iconst (-1), 1) := dk_2 (dk_at dksX3_init_2_0 13 rfl rfl)
theorem dX3_init_2_14 : decode cX3_init_2 14 = .ok (.putfield 17, 3) := dk_181 0 17 (dk_at dksX3_init_2_0 14 rfl rfl)
theorem dX3_init_2_17 : decode cX3_init_2 17 = .ok (.aload_n 0, 1) := dk_42 (dk_at dksX3_init_2_0 17 rfl rfl)
theorem dX3_init_2_18 : decode cX3_init_2 18 = .ok (.aload_n 1, 1) := dk_43 (dk_at dksX3_init_2_0 18 rfl rfl)
theorem dX3_init_2_19 : decode cX3_init_2 19 = .ok (.getfield 21, 3) := dk_180 0 21 (dk_at dksX3_init_2_0 19 rfl rfl)
theorem dX3_init_2_22 : decode cX3_init_2 22 = .ok (.invokevirtual 37, 3) := dk_182 0 37 (dk_at dksX3_init_2_1 0 rfl rfl)
theorem dX3_init_2_25 : decode cX3_init_2 25 = .ok (.checkcast 38, 3) := dk_192 0 38 (dk_at dksX3_init_2_1 3 rfl rfl)
theorem dX3_init_2_28 : decode cX3_init_2 28 = .ok (.putfield 21, 3) := dk_181 0 21 (dk_at dksX3_init_2_1 6 rfl rfl)
theorem dX3_init_2_31 : decode cX3_init_2 31 = .ok (.aload_n 0, 1) := dk_42 (dk_at dksX3_init_2_1 9 rfl rfl)
theorem dX3_init_2_32 : decode cX3_init_2 32 = .ok (.aload_n 1, 1) := dk_43 (dk_at dksX3_init_2_1 10 rfl rfl)
theorem dX3_init_2_33 : decode cX3_init_2 33 = .ok (.getfield 28, 3) := dk_180 0 28 (dk_at dksX3_init_2_1 11 rfl rfl)
theorem dX3_init_2_36 : decode cX3_init_2 36 = .ok (.invokevirtual 42, 3) := dk_182 0 42 (dk_at dksX3_init_2_1 14 rfl rfl)
theorem dX3_init_2_39 : decode cX3_init_2 39 = .ok (.putfield 28, 3) := dk_181 0 28 (dk_at dksX3_init_2_1 17 rfl rfl)
theorem dX3_init_2_42 : decode cX3_init_2 42 = .ok (.iconst 0, 1) := dk_3 (dk_at dksX3_init_2_1 20 rfl rfl)
theorem dX3_init_2_43 : decode cX3_init_2 43 = .ok (.istore_n 2, 1) := dk_61 (dk_at dksX3_init_2_1 21 rfl rfl)
theorem dX3_init_2_44 : decode cX3_init_2 44 = .ok (.iload_n 2, 1) := dk_28 (dk_at dksX3_init_2_1 22 rfl rfl)
theorem dX3_init_2_45 : decode cX3_init_2 45 = .ok (.iconst 3, 1) := dk_6 (dk_at dksX3_init_2_1 23 rfl rfl)
theorem dX3_init_2_46 : decode cX3_init_2 46 = .ok (.if_icmp .ge 27, 3) := dk_162 0 27 (dk_at dksX3_init_2_2 0 rfl rfl)
theorem dX3_init_2_49 : decode cX3_init_2 49 = .ok (.aload_n 0, 1) := dk_42 (dk_at dksX3_init_2_2 3 rfl rfl)
theorem dX3_init_2_50 : decode cX3_init_2 50 = .ok (.getfield 11, 3) := dk_180 0 11 (dk_at dksX3_init_2_2 4 rfl rfl)
theorem dX3_init_2_53 : decode cX3_init_2 53 = .ok (.iload_n 2, 1) := dk_28 (dk_at dksX3_init_2_2 7 rfl rfl)
theorem dX3_init_2_54 : decode cX3_init_2 54 = .ok (.aload_n 1, 1) := dk_43 (dk_at dksX3_init_2_2 8 rfl rfl)
theorem dX3_init_2_55 : decode cX3_init_2 55 = .ok (.getfield 11, 3) := dk_180 0 11 (dk_at dksX3_init_2_2 9 rfl rfl)
theorem dX3_init_2_58 : decode cX3_init_2 58 = .ok (.iload_n 2, 1) := dk_28 (dk_at dksX3_init_2_2 12 rfl rfl)
theorem dX3_init_2_59 : decode cX3_init_2 59 = .ok (.aaload, 1) := dk_50 (dk_at dksX3_init_2_2 13 rfl rfl)
theorem dX3_init_2_60 : decode cX3_init_2 60 = .ok (.invokevirtual 42, 3) := dk_182 0 42 (dk_at dksX3_init_2_2 14 rfl rfl)
theorem dX3_init_2_63 : decode cX3_init_2 63 = .ok (.invokestatic 33, 3) := dk_184 0 33 (dk_at dksX3_init_2_2 17 rfl rfl)
theorem dX3_init_2_66 : decode cX3_init_2 66 = .ok (.pop, 1) := dk_87 (dk_at dksX3_init_2_2 20 rfl rfl)
theorem dX3_init_2_67 : decode cX3_init_2 67 = .ok (.iinc 2 1, 3) := dk_132 2 1 (dk_at dksX3_init_2_2 21 rfl rfl)
theorem dX3_init_2_70 : decode cX3_init_2 70 = .ok (.goto (-26), 3) := dk_167 255 230 (dk_at dksX3_init_2_3 0 rfl rfl)
theorem dX3_init_2_73 : decode cX3_init_2 73 = .ok (.aload_n 0, 1) := dk_42 (dk_at dksX3_init_2_3 3 rfl rfl)
theorem dX3_init_2_74 : decode cX3_init_2 74 = .ok (.aload_n 1, 1) := dk_43 (dk_at dksX3_init_2_3 4 rfl rfl)
theorem dX3_init_2_75 : decode cX3_init_2 75 = .ok (.getfield 48, 3) := dk_180 0 48 (dk_at dksX3_init_2_3 5 rfl rfl)
theorem dX3_init_2_78 : decode cX3_init_2 78 = .ok (.putfield 48, 3) := dk_181 0 48 (dk_at dksX3_init_2_3 8 rfl rfl)
theorem dX3_init_2_81 : decode cX3_init_2 81 = .ok (.aload_n 0, 1) := dk_42 (dk_at dksX3_init_2_3 11 rfl rfl)
theorem dX3_init_2_82 : decode cX3_init_2 82 = .ok (.aload_n 1, 1) := dk_43 (dk_at dksX3_init_2_3 12 rfl rfl)
theorem dX3_init_2_83 : decode cX3_init_2 83 = .ok (.getfield 51, 3) := dk_180 0 51 (dk_at dksX3_init_2_3 13 rfl rfl)
theorem dX3_init_2_86 : decode cX3_init_2 86 = .ok (.putfield 51, 3) := dk_181 0 51 (dk_at dksX3_init_2_3 16 rfl rfl)
theorem dX3_init_2_89 : decode cX3_init_2 89 = .ok (.aload_n 0, 1) := dk_42 (dk_at dksX3_init_2_3 19 rfl rfl)
theorem dX3_init_2_90 : decode cX3_init_2 90 = .ok (.aload_n 1, 1) := dk_43 (dk_at dksX3_init_2_3 20 rfl rfl)
theorem dX3_init_2_91 : decode cX3_init_2 91 = .ok (.getfield 54, 3) := dk_180 0 54 (dk_at dksX3_init_2_3 21 rfl rfl)
theorem dX3_init_2_94 : decode cX3_init_2 94 = .ok (.putfield 54, 3) := dk_181 0 54 (dk_at dksX3_init_2_4 0 rfl rfl)
theorem dX3_init_2_97 : decode cX3_init_2 97 = .ok (.aload_n 0, 1) := dk_42 (dk_at dksX3_init_2_4 3 rfl rfl)
theorem dX3_init_2_98 : decode cX3_init_2 98 = .ok (.aload_n 1, 1) := dk_43 (dk_at dksX3_init_2_4 4 rfl rfl)
theorem dX3_init_2_99 : decode cX3_init_2 99 = .ok (.getfield 17, 3) := dk_180 0 17 (dk_at dksX3_init_2_4 5 rfl rfl)
theorem dX3_init_2_102 : decode cX3_init_2 102 = .ok (.putfield 17, 3) := dk_181 0 17 (dk_at dksX3_init_2_4 8 rfl rfl)
theorem dX3_init_2_105 : decode cX3_init_2 105 = .ok (.return_, 1) := dk_177 (dk_at dksX3_init_2_4 11 rfl rfl)
abbrev cX3_isData : ByteArray := prog_3_method_6_code
def yX3_isData : MethodName := ⟨RX3, "isData", "(I)Z"⟩
def dkwX3_isData_1 : List UInt8 := [184, 0, 33, 172]
abbrev dktX3_isData_1 : List UInt8 := dkwX3_isData_1 ++ []
def dkwX3_isData_0 : List UInt8 := [6, 189, 0, 9, 77, 42, 180, 0, 11, 3, 44, 3, 6, 184, 0, 65, 44, 3, 42, 27, 182, 0, 61]
abbrev dktX3_isData_0 : List UInt8 := dkwX3_isData_0 ++ dktX3_isData_1
theorem dksX3_isData_0 : cX3_isData.data.toList.drop 0 = dktX3_isData_0 := by decide +kernel
theorem dksX3_isData_1 : cX3_isData.data.toList.drop 23 = dktX3_isData_1 := dk_seg dksX3_isData_0 23 rfl rfl
theorem dX3_isData_0 : decode cX3_isData 0 = .ok (.iconst 3, 1) := dk_6 (dk_at dksX3_isData_0 0 rfl rfl)
theorem dX3_isData_1 : decode cX3_isData 1 = .ok (.anewarray 9, 3) := dk_189 0 9 (dk_at dksX3_isData_0 1 rfl rfl)
theorem dX3_isData_4 : decode cX3_isData 4 = .ok (.astore_n 2, 1) := dk_77 (dk_at dksX3_isData_0 4 rfl rfl)
theorem dX3_isData_5 : decode cX3_isData 5 = .ok (.aload_n 0, 1) := dk_42 (dk_at dksX3_isData_0 5 rfl rfl)
theorem dX3_isData_6 : decode cX3_isData 6 = .ok (.getfield 11, 3) := dk_180 0 11 (dk_at dksX3_isData_0 6 rfl rfl)
theorem dX3_isData_9 : decode cX3_isData 9 = .ok (.iconst 0, 1) := dk_3 (dk_at dksX3_isData_0 9 rfl rfl)
theorem dX3_isData_10 : decode cX3_isData 10 = .ok (.aload_n 2, 1) := dk_44 (dk_at dksX3_isData_0 10 rfl rfl)
theorem dX3_isData_11 : decode cX3_isData 11 = .ok (.iconst 0, 1) := dk_3 (dk_at dksX3_isData_0 11 rfl rfl)
theorem dX3_isData_12 : decode cX3_isData 12 = .ok (.iconst 3, 1) := dk_6 (dk_at dksX3_isData_0 12 rfl rfl)
theorem dX3_isData_13 : decode cX3_isData 13 = .ok (.invokestatic 65, 3) := dk_184 0 65 (dk_at dksX3_isData_0 13 rfl rfl)
theorem dX3_isData_16 : decode cX3_isData 16 = .ok (.aload_n 2, 1) := dk_44 (dk_at dksX3_isData_0 16 rfl rfl)
theorem dX3_isData_17 : decode cX3_isData 17 = .ok (.iconst 0, 1) := dk_3 (dk_at dksX3_isData_0 17 rfl rfl)
theorem dX3_isData_18 : decode cX3_isData 18 = .ok (.aload_n 0, 1) := dk_42 (dk_at dksX3_isData_0 18 rfl rfl)
theorem dX3_isData_19 : decode cX3_isData 19 = .ok (.iload_n 1, 1) := dk_27 (dk_at dksX3_isData_0 19 rfl rfl)
theorem dX3_isData_20 : decode cX3_isData 20 = .ok (.invokevirtual 61, 3) := dk_182 0 61 (dk_at dksX3_isData_0 20 rfl rfl)
theorem dX3_isData_23 : decode cX3_isData 23 = .ok (.invokestatic 33, 3) := dk_184 0 33 (dk_at dksX3_isData_1 0 rfl rfl)
theorem dX3_isData_26 : decode cX3_isData 26 = .ok (.ireturn, 1) := dk_172 (dk_at dksX3_isData_1 3 rfl rfl)
theorem q75 : (Jvm.Cond.initialized "DiskPacks$Drive") ∈ lw_all := lw_g (lw_at lw_m1 6 rfl) rfl
theorem q149 : (Jvm.Cond.instantiable "DiskPacks$Drive" (7 : Nat)) ∈ lw_all := lw_g (lw_at lw_m1 80 rfl) rfl
theorem q151 : (Jvm.Cond.instanceMethod ({ cls := "DiskPacks$Drive", name := "<init>", desc := "()V" } : Jvm.MethodName)) ∈ lw_all := lw_g (lw_at lw_m1 82 rfl) rfl
theorem q152 : (Jvm.Cond.code ({ cls := "DiskPacks$Drive", name := "<init>", desc := "()V" } : Jvm.MethodName) prog_3_method_1_code (2 : Nat) (Option.none : Option Jvm.ClassFile.FieldType)) ∈ lw_all := lw_g (lw_at lw_m1 83 rfl) rfl
theorem q153 : (Jvm.Cond.methodLink "DiskPacks$Drive" (3 : Nat) ({ cls := "java/lang/Object", name := "<init>", desc := "()V" } : Jvm.MethodName)) ∈ lw_all := lw_g (lw_at lw_m1 84 rfl) rfl
theorem q154 : (Jvm.Cond.classLink "DiskPacks$Drive" (9 : Nat) "DiskPacks$DataHead") ∈ lw_all := lw_g (lw_at lw_m1 85 rfl) rfl
theorem q156 : (Jvm.Cond.classLink "DiskPacks$Drive" (25 : Nat) "DiskPacks$ServoHead") ∈ lw_all := lw_g (lw_at lw_m1 87 rfl) rfl
theorem q158 : (Jvm.Cond.methodLinkNest "DiskPacks$Drive" (27 : Nat) ({ cls := "DiskPacks$ServoHead", name := "<init>", desc := "()V" } : Jvm.MethodName) "DiskPacks") ∈ lw_tbl := lw_at lw_m1 89 rfl
theorem q166 : (Jvm.Cond.fieldLink "DiskPacks$Drive" (71 : Nat) "DiskPacks$Head" "offset" "I") ∈ lw_all := lw_g (lw_at lw_m1 97 rfl) rfl
theorem q188 : (Jvm.Cond.methodLinkNest "DiskPacks$Drive" (32 : Nat) ({ cls := "DiskPacks$DataHead", name := "<init>", desc := "()V" } : Jvm.MethodName) "DiskPacks") ∈ lw_tbl := lw_at lw_m1 119 rfl
theorem q196 : (Jvm.Cond.methodLinkNest "DiskPacks$Drive" (33 : Nat) ({ cls := "DiskPacks", name := "fits", desc := "([LDiskPacks$Head;ILDiskPacks$Head;)Z" } : Jvm.MethodName) "DiskPacks") ∈ lw_tbl := lw_at lw_m1 127 rfl
theorem q273 : (Jvm.Cond.fieldLink "DiskPacks$Drive" (11 : Nat) "DiskPacks$Drive" "dataHeads" "[LDiskPacks$Head;") ∈ lw_all := lw_g (lw_at lw_m1 204 rfl) rfl
theorem q274 : (Jvm.Cond.fieldLink "DiskPacks$Drive" (28 : Nat) "DiskPacks$Drive" "servoHead" "LDiskPacks$Head;") ∈ lw_all := lw_g (lw_at lw_m1 205 rfl) rfl
theorem q277 : (Jvm.Cond.fieldLink "DiskPacks$Drive" (21 : Nat) "DiskPacks$Drive" "learned" "[I") ∈ lw_all := lw_g (lw_at lw_m1 208 rfl) rfl
theorem q279 : (Jvm.Cond.fieldLink "DiskPacks$Drive" (48 : Nat) "DiskPacks$Drive" "warmth" "I") ∈ lw_all := lw_g (lw_at lw_m1 210 rfl) rfl
theorem q282 : (Jvm.Cond.fieldLink "DiskPacks$Drive" (51 : Nat) "DiskPacks$Drive" "cylinder" "I") ∈ lw_all := lw_g (lw_at lw_m1 213 rfl) rfl
theorem q285 : (Jvm.Cond.fieldLink "DiskPacks$Drive" (54 : Nat) "DiskPacks$Drive" "isServoOn" "Z") ∈ lw_all := lw_g (lw_at lw_m1 216 rfl) rfl
theorem q288 : (Jvm.Cond.fieldLink "DiskPacks$Drive" (17 : Nat) "DiskPacks$Drive" "pack" "I") ∈ lw_all := lw_g (lw_at lw_m1 219 rfl) rfl
theorem q291 : (Jvm.Cond.laysFinal "DiskPacks$Drive" "DiskPacks$Drive" "dataHeads" "[LDiskPacks$Head;") ∈ lw_all := lw_g (lw_at lw_m1 222 rfl) rfl
theorem q292 : (Jvm.Cond.soleField "DiskPacks$Drive" "dataHeads") ∈ lw_all := lw_g (lw_at lw_m1 223 rfl) rfl
theorem q293 : (Jvm.Cond.laysFinal "DiskPacks$Drive" "DiskPacks$Drive" "servoHead" "LDiskPacks$Head;") ∈ lw_all := lw_g (lw_at lw_m1 224 rfl) rfl
theorem q294 : (Jvm.Cond.soleField "DiskPacks$Drive" "servoHead") ∈ lw_all := lw_g (lw_at lw_m1 225 rfl) rfl
theorem q295 : (Jvm.Cond.laysFinal "DiskPacks$Drive" "DiskPacks$Drive" "learned" "[I") ∈ lw_all := lw_g (lw_at lw_m1 226 rfl) rfl
theorem q296 : (Jvm.Cond.soleField "DiskPacks$Drive" "learned") ∈ lw_all := lw_g (lw_at lw_m1 227 rfl) rfl
theorem q297 : (Jvm.Cond.lays "DiskPacks$Drive" "DiskPacks$Drive" "warmth" "I") ∈ lw_all := lw_g (lw_at lw_m1 228 rfl) rfl
theorem q298 : (Jvm.Cond.soleField "DiskPacks$Drive" "warmth") ∈ lw_all := lw_g (lw_at lw_m1 229 rfl) rfl
theorem q299 : (Jvm.Cond.lays "DiskPacks$Drive" "DiskPacks$Drive" "cylinder" "I") ∈ lw_all := lw_g (lw_at lw_m1 230 rfl) rfl
theorem q300 : (Jvm.Cond.soleField "DiskPacks$Drive" "cylinder") ∈ lw_all := lw_g (lw_at lw_m1 231 rfl) rfl
theorem q301 : (Jvm.Cond.lays "DiskPacks$Drive" "DiskPacks$Drive" "isServoOn" "Z") ∈ lw_all := lw_g (lw_at lw_m1 232 rfl) rfl
theorem q302 : (Jvm.Cond.soleField "DiskPacks$Drive" "isServoOn") ∈ lw_all := lw_g (lw_at lw_m1 233 rfl) rfl
theorem q303 : (Jvm.Cond.lays "DiskPacks$Drive" "DiskPacks$Drive" "pack" "I") ∈ lw_all := lw_g (lw_at lw_m1 234 rfl) rfl
theorem q304 : (Jvm.Cond.soleField "DiskPacks$Drive" "pack") ∈ lw_all := lw_g (lw_at lw_m1 235 rfl) rfl
theorem q305 : (Jvm.Cond.superclass "DiskPacks$Drive" "java/lang/Object") ∈ lw_all := lw_g (lw_at lw_m1 236 rfl) rfl
theorem q882 : (Jvm.Cond.instanceMethod ({ cls := "DiskPacks$Drive", name := "dataHead", desc := "(I)LDiskPacks$DataHead;" } : Jvm.MethodName)) ∈ lw_all := lw_g (lw_at lw_m4 93 rfl) rfl
theorem q883 : (Jvm.Cond.selects "DiskPacks$Drive" ({ cls := "DiskPacks$Drive", name := "dataHead", desc := "(I)LDiskPacks$DataHead;" } : Jvm.MethodName) ({ cls := "DiskPacks$Drive", name := "dataHead", desc := "(I)LDiskPacks$DataHead;" } : Jvm.MethodName)) ∈ lw_all := lw_g (lw_at lw_m4 94 rfl) rfl
theorem q884 : (Jvm.Cond.code ({ cls := "DiskPacks$Drive", name := "dataHead", desc := "(I)LDiskPacks$DataHead;" } : Jvm.MethodName) prog_3_method_5_code (4 : Nat) (Option.some (Jvm.ClassFile.FieldType.object "DiskPacks$DataHead"))) ∈ lw_all := lw_g (lw_at lw_m4 95 rfl) rfl
theorem q885 : (Jvm.Cond.methodLink "DiskPacks$Drive" (61 : Nat) ({ cls := "DiskPacks$Drive", name := "head", desc := "(I)LDiskPacks$Head;" } : Jvm.MethodName)) ∈ lw_all := lw_g (lw_at lw_m4 96 rfl) rfl
theorem q886 : (Jvm.Cond.instanceMethod ({ cls := "DiskPacks$Drive", name := "head", desc := "(I)LDiskPacks$Head;" } : Jvm.MethodName)) ∈ lw_all := lw_g (lw_at lw_m4 97 rfl) rfl
theorem q887 : (Jvm.Cond.selects "DiskPacks$Drive" ({ cls := "DiskPacks$Drive", name := "head", desc := "(I)LDiskPacks$Head;" } : Jvm.MethodName) ({ cls := "DiskPacks$Drive", name := "head", desc := "(I)LDiskPacks$Head;" } : Jvm.MethodName)) ∈ lw_all := lw_g (lw_at lw_m4 98 rfl) rfl
theorem q888 : (Jvm.Cond.code ({ cls := "DiskPacks$Drive", name := "head", desc := "(I)LDiskPacks$Head;" } : Jvm.MethodName) prog_3_method_4_code (2 : Nat) (Option.some (Jvm.ClassFile.FieldType.object "DiskPacks$Head"))) ∈ lw_all := lw_g (lw_at lw_m4 99 rfl) rfl
theorem q906 : (Jvm.Cond.instanceMethod ({ cls := "DiskPacks$Drive", name := "place", desc := "(IIII)I" } : Jvm.MethodName)) ∈ lw_all := lw_g (lw_at lw_m4 117 rfl) rfl
theorem q907 : (Jvm.Cond.selects "DiskPacks$Drive" ({ cls := "DiskPacks$Drive", name := "place", desc := "(IIII)I" } : Jvm.MethodName) ({ cls := "DiskPacks$Drive", name := "place", desc := "(IIII)I" } : Jvm.MethodName)) ∈ lw_all := lw_g (lw_at lw_m4 118 rfl) rfl
theorem q908 : (Jvm.Cond.code ({ cls := "DiskPacks$Drive", name := "place", desc := "(IIII)I" } : Jvm.MethodName) prog_3_method_7_code (6 : Nat) (Option.some Jvm.ClassFile.FieldType.int)) ∈ lw_all := lw_g (lw_at lw_m4 119 rfl) rfl
theorem q971 : (Jvm.Cond.instanceMethod ({ cls := "DiskPacks$Drive", name := "learn", desc := "(II)V" } : Jvm.MethodName)) ∈ lw_all := lw_g (lw_at lw_m4 182 rfl) rfl
theorem q972 : (Jvm.Cond.selects "DiskPacks$Drive" ({ cls := "DiskPacks$Drive", name := "learn", desc := "(II)V" } : Jvm.MethodName) ({ cls := "DiskPacks$Drive", name := "learn", desc := "(II)V" } : Jvm.MethodName)) ∈ lw_all := lw_g (lw_at lw_m4 183 rfl) rfl
theorem q973 : (Jvm.Cond.code ({ cls := "DiskPacks$Drive", name := "learn", desc := "(II)V" } : Jvm.MethodName) prog_3_method_8_code (4 : Nat) (Option.none : Option Jvm.ClassFile.FieldType)) ∈ lw_all := lw_g (lw_at lw_m4 184 rfl) rfl
theorem q1045 : (Jvm.Cond.instanceMethod ({ cls := "DiskPacks$Drive", name := "copy", desc := "()LDiskPacks$Drive;" } : Jvm.MethodName)) ∈ lw_all := lw_g (lw_at lw_m5 16 rfl) rfl
theorem q1046 : (Jvm.Cond.selects "DiskPacks$Drive" ({ cls := "DiskPacks$Drive", name := "copy", desc := "()LDiskPacks$Drive;" } : Jvm.MethodName) ({ cls := "DiskPacks$Drive", name := "copy", desc := "()LDiskPacks$Drive;" } : Jvm.MethodName)) ∈ lw_all := lw_g (lw_at lw_m5 17 rfl) rfl
theorem q1047 : (Jvm.Cond.code ({ cls := "DiskPacks$Drive", name := "copy", desc := "()LDiskPacks$Drive;" } : Jvm.MethodName) prog_3_method_3_code (1 : Nat) (Option.some (Jvm.ClassFile.FieldType.object "DiskPacks$Drive"))) ∈ lw_all := lw_g (lw_at lw_m5 18 rfl) rfl
theorem q1048 : (Jvm.Cond.classLink "DiskPacks$Drive" (12 : Nat) "DiskPacks$Drive") ∈ lw_all := lw_g (lw_at lw_m5 19 rfl) rfl
theorem q1049 : (Jvm.Cond.methodLink "DiskPacks$Drive" (58 : Nat) ({ cls := "DiskPacks$Drive", name := "<init>", desc := "(LDiskPacks$Drive;)V" } : Jvm.MethodName)) ∈ lw_all := lw_g (lw_at lw_m5 20 rfl) rfl
theorem q1050 : (Jvm.Cond.instanceMethod ({ cls := "DiskPacks$Drive", name := "<init>", desc := "(LDiskPacks$Drive;)V" } : Jvm.MethodName)) ∈ lw_all := lw_g (lw_at lw_m5 21 rfl) rfl
theorem q1051 : (Jvm.Cond.code ({ cls := "DiskPacks$Drive", name := "<init>", desc := "(LDiskPacks$Drive;)V" } : Jvm.MethodName) prog_3_method_2_code (3 : Nat) (Option.none : Option Jvm.ClassFile.FieldType)) ∈ lw_all := lw_g (lw_at lw_m5 22 rfl) rfl
theorem q1052 : (Jvm.Cond.methodLink "DiskPacks$Drive" (37 : Nat) ({ cls := "[I", name := "clone", desc := "()Ljava/lang/Object;" } : Jvm.MethodName)) ∈ lw_all := lw_g (lw_at lw_m5 23 rfl) rfl
theorem q1053 : (Jvm.Cond.classLink "DiskPacks$Drive" (38 : Nat) "[I") ∈ lw_all := lw_g (lw_at lw_m5 24 rfl) rfl
theorem q1054 : (Jvm.Cond.methodLink "DiskPacks$Drive" (42 : Nat) ({ cls := "DiskPacks$Head", name := "copy", desc := "()LDiskPacks$Head;" } : Jvm.MethodName)) ∈ lw_all := lw_g (lw_at lw_m5 25 rfl) rfl
theorem q1171 : (Jvm.Cond.selects "DiskPacks$Drive" ({ cls := "java/lang/Object", name := "getClass", desc := "()Ljava/lang/Class;" } : Jvm.MethodName) ({ cls := "java/lang/Object", name := "getClass", desc := "()Ljava/lang/Class;" } : Jvm.MethodName)) ∈ lw_all := lw_g (lw_at lw_m5 142 rfl) rfl
theorem q1409 : (Jvm.Cond.instanceMethod ({ cls := "DiskPacks$Drive", name := "isData", desc := "(I)Z" } : Jvm.MethodName)) ∈ lw_all := lw_g (lw_at lw_m6 140 rfl) rfl
theorem q1410 : (Jvm.Cond.selects "DiskPacks$Drive" ({ cls := "DiskPacks$Drive", name := "isData", desc := "(I)Z" } : Jvm.MethodName) ({ cls := "DiskPacks$Drive", name := "isData", desc := "(I)Z" } : Jvm.MethodName)) ∈ lw_all := lw_g (lw_at lw_m6 141 rfl) rfl
theorem q1411 : (Jvm.Cond.code ({ cls := "DiskPacks$Drive", name := "isData", desc := "(I)Z" } : Jvm.MethodName) prog_3_method_6_code (3 : Nat) (Option.some Jvm.ClassFile.FieldType.boolean)) ∈ lw_all := lw_g (lw_at lw_m6 142 rfl) rfl
theorem q1412 : (Jvm.Cond.methodLink "DiskPacks$Drive" (65 : Nat) ({ cls := "java/lang/System", name := "arraycopy", desc := "(Ljava/lang/Object;ILjava/lang/Object;II)V" } : Jvm.MethodName)) ∈ lw_all := lw_g (lw_at lw_m6 143 rfl) rfl
theorem q2166 : (Jvm.Cond.castable "DiskPacks$Drive" "java/lang/Object") ∈ lw_tbl := lw_at lw_m9 177 rfl
theorem in_X3 : ∀ w ∈ wsX30, w ∈ lw_all := lw_in wsX30 [291, 293, 295, 297, 299, 301, 303] (by decide +kernel) (by decide +kernel)
/-! DiskPacks$Head -/
set_option maxRecDepth 100000
def RX4 : String := "DiskPacks$Head"
abbrev cX4_init : ByteArray := prog_4_method_1_code
def yX4_init : MethodName := ⟨RX4, "<init>", "()V"⟩
theorem dX4_init_0 : decode cX4_init 0 = .ok (.aload_n 0, 1) := by decide +kernel
theorem dX4_init_1 : decode cX4_init 1 = .ok (.invokespecial 1, 3) := by decide +kernel
theorem dX4_init_4 : decode cX4_init 4 = .ok (.return_, 1) := by decide +kernel
abbrev cX4_strike : ByteArray := prog_4_method_4_code
def yX4_strike : MethodName := ⟨RX4, "strike", "()V"⟩
def dkwX4_strike_0 : List UInt8 := [42, 4, 181, 0, 17, 42, 3, 181, 0, 21, 177]
abbrev dktX4_strike_0 : List UInt8 := dkwX4_strike_0 ++ []
theorem dksX4_strike_0 : cX4_strike.data.toList.drop 0 = dktX4_strike_0 := by decide +kernel
theorem dX4_strike_0 : decode cX4_strike 0 = .ok (.aload_n 0, 1) := dk_42 (dk_at dksX4_strike_0 0 rfl rfl)
theorem dX4_strike_1 : decode cX4_strike 1 = .ok (.iconst 1, 1) := dk_4 (dk_at dksX4_strike_0 1 rfl rfl)
theorem dX4_strike_2 : decode cX4_strike 2 = .ok (.putfield 17, 3) := dk_181 0 17 (dk_at dksX4_strike_0 2 rfl rfl)
theorem dX4_strike_5 : decode cX4_strike 5 = .ok (.aload_n 0, 1) := dk_42 (dk_at dksX4_strike_0 5 rfl rfl)
theorem dX4_strike_6 : decode cX4_strike 6 = .ok (.iconst 0, 1) := dk_3 (dk_at dksX4_strike_0 6 rfl rfl)
theorem dX4_strike_7 : decode cX4_strike 7 = .ok (.putfield 21, 3) := dk_181 0 21 (dk_at dksX4_strike_0 7 rfl rfl)
theorem dX4_strike_10 : decode cX4_strike 10 = .ok (.return_, 1) := dk_177 (dk_at dksX4_strike_0 10 rfl rfl)
abbrev cX4_mend : ByteArray := prog_4_method_5_code
def yX4_mend : MethodName := ⟨RX4, "mend", "()V"⟩
def dkwX4_mend_0 : List UInt8 := [42, 3, 181, 0, 17, 42, 3, 181, 0, 21, 42, 3, 181, 0, 13, 177]
abbrev dktX4_mend_0 : List UInt8 := dkwX4_mend_0 ++ []
theorem dksX4_mend_0 : cX4_mend.data.toList.drop 0 = dktX4_mend_0 := by decide +kernel
theorem dX4_mend_0 : decode cX4_mend 0 = .ok (.aload_n 0, 1) := dk_42 (dk_at dksX4_mend_0 0 rfl rfl)
theorem dX4_mend_1 : decode cX4_mend 1 = .ok (.iconst 0, 1) := dk_3 (dk_at dksX4_mend_0 1 rfl rfl)
theorem dX4_mend_2 : decode cX4_mend 2 = .ok (.putfield 17, 3) := dk_181 0 17 (dk_at dksX4_mend_0 2 rfl rfl)
theorem dX4_mend_5 : decode cX4_mend 5 = .ok (.aload_n 0, 1) := dk_42 (dk_at dksX4_mend_0 5 rfl rfl)
theorem dX4_mend_6 : decode cX4_mend 6 = .ok (.iconst 0, 1) := dk_3 (dk_at dksX4_mend_0 6 rfl rfl)
theorem dX4_mend_7 : decode cX4_mend 7 = .ok (.putfield 21, 3) := dk_181 0 21 (dk_at dksX4_mend_0 7 rfl rfl)
theorem dX4_mend_10 : decode cX4_mend 10 = .ok (.aload_n 0, 1) := dk_42 (dk_at dksX4_mend_0 10 rfl rfl)
theorem dX4_mend_11 : decode cX4_mend 11 = .ok (.iconst 0, 1) := dk_3 (dk_at dksX4_mend_0 11 rfl rfl)
theorem dX4_mend_12 : decode cX4_mend 12 = .ok (.putfield 13, 3) := dk_181 0 13 (dk_at dksX4_mend_0 12 rfl rfl)
theorem dX4_mend_15 : decode cX4_mend 15 = .ok (.return_, 1) := dk_177 (dk_at dksX4_mend_0 15 rfl rfl)
abbrev cX4_copy : ByteArray := prog_4_method_3_code
def yX4_copy : MethodName := ⟨RX4, "copy", "()LDiskPacks$Head;"⟩
def dkwX4_copy_1 : List UInt8 := [180, 0, 21, 181, 0, 21, 43, 176]
abbrev dktX4_copy_1 : List UInt8 := dkwX4_copy_1 ++ []
def dkwX4_copy_0 : List UInt8 := [42, 182, 0, 7, 76, 43, 42, 180, 0, 13, 181, 0, 13, 43, 42, 180, 0, 17, 181, 0, 17, 43, 42]
abbrev dktX4_copy_0 : List UInt8 := dkwX4_copy_0 ++ dktX4_copy_1
theorem dksX4_copy_0 : cX4_copy.data.toList.drop 0 = dktX4_copy_0 := by decide +kernel
theorem dksX4_copy_1 : cX4_copy.data.toList.drop 23 = dktX4_copy_1 := dk_seg dksX4_copy_0 23 rfl rfl
theorem dX4_copy_0 : decode cX4_copy 0 = .ok (.aload_n 0, 1) := dk_42 (dk_at dksX4_copy_0 0 rfl rfl)
theorem dX4_copy_1 : decode cX4_copy 1 = .ok (.invokevirtual 7, 3) := dk_182 0 7 (dk_at dksX4_copy_0 1 rfl rfl)
theorem dX4_copy_4 : decode cX4_copy 4 = .ok (.astore_n 1, 1) := dk_76 (dk_at dksX4_copy_0 4 rfl rfl)
theorem dX4_copy_5 : decode cX4_copy 5 = .ok (.aload_n 1, 1) := dk_43 (dk_at dksX4_copy_0 5 rfl rfl)
theorem dX4_copy_6 : decode cX4_copy 6 = .ok (.aload_n 0, 1) := dk_42 (dk_at dksX4_copy_0 6 rfl rfl)
theorem dX4_copy_7 : decode cX4_copy 7 = .ok (.getfield 13, 3) := dk_180 0 13 (dk_at dksX4_copy_0 7 rfl rfl)
theorem dX4_copy_10 : decode cX4_copy 10 = .ok (.putfield 13, 3) := dk_181 0 13 (dk_at dksX4_copy_0 10 rfl rfl)
theorem dX4_copy_13 : decode cX4_copy 13 = .ok (.aload_n 1, 1) := dk_43 (dk_at dksX4_copy_0 13 rfl rfl)
theorem dX4_copy_14 : decode cX4_copy 14 = .ok (.aload_n 0, 1) := dk_42 (dk_at dksX4_copy_0 14 rfl rfl)
theorem dX4_copy_15 : decode cX4_copy 15 = .ok (.getfield 17, 3) := dk_180 0 17 (dk_at dksX4_copy_0 15 rfl rfl)
theorem dX4_copy_18 : decode cX4_copy 18 = .ok (.putfield 17, 3) := dk_181 0 17 (dk_at dksX4_copy_0 18 rfl rfl)
theorem dX4_copy_21 : decode cX4_copy 21 = .ok (.aload_n 1, 1) := dk_43 (dk_at dksX4_copy_0 21 rfl rfl)
theorem dX4_copy_22 : decode cX4_copy 22 = .ok (.aload_n 0, 1) := dk_42 (dk_at dksX4_copy_0 22 rfl rfl)
theorem dX4_copy_23 : decode cX4_copy 23 = .ok (.getfield 21, 3) := dk_180 0 21 (dk_at dksX4_copy_1 0 rfl rfl)
theorem dX4_copy_26 : decode cX4_copy 26 = .ok (.putfield 21, 3) := dk_181 0 21 (dk_at dksX4_copy_1 3 rfl rfl)
theorem dX4_copy_29 : decode cX4_copy 29 = .ok (.aload_n 1, 1) := dk_43 (dk_at dksX4_copy_1 6 rfl rfl)
theorem dX4_copy_30 : decode cX4_copy 30 = .ok (.areturn, 1) := dk_176 (dk_at dksX4_copy_1 7 rfl rfl)
theorem q76 : (Jvm.Cond.initialized "DiskPacks$Head") ∈ lw_all := lw_g (lw_at lw_m1 7 rfl) rfl
theorem q162 : (Jvm.Cond.instanceMethod ({ cls := "DiskPacks$Head", name := "<init>", desc := "()V" } : Jvm.MethodName)) ∈ lw_all := lw_g (lw_at lw_m1 93 rfl) rfl
theorem q163 : (Jvm.Cond.code ({ cls := "DiskPacks$Head", name := "<init>", desc := "()V" } : Jvm.MethodName) prog_4_method_1_code (1 : Nat) (Option.none : Option Jvm.ClassFile.FieldType)) ∈ lw_all := lw_g (lw_at lw_m1 94 rfl) rfl
theorem q164 : (Jvm.Cond.methodLink "DiskPacks$Head" (1 : Nat) ({ cls := "java/lang/Object", name := "<init>", desc := "()V" } : Jvm.MethodName)) ∈ lw_all := lw_g (lw_at lw_m1 95 rfl) rfl
theorem q165 : (Jvm.Cond.fieldLink "DiskPacks$Head" (13 : Nat) "DiskPacks$Head" "offset" "I") ∈ lw_all := lw_g (lw_at lw_m1 96 rfl) rfl
theorem q171 : (Jvm.Cond.fieldLink "DiskPacks$Head" (17 : Nat) "DiskPacks$Head" "isStruck" "Z") ∈ lw_all := lw_g (lw_at lw_m1 102 rfl) rfl
theorem q175 : (Jvm.Cond.fieldLink "DiskPacks$Head" (21 : Nat) "DiskPacks$Head" "badPasses" "I") ∈ lw_all := lw_g (lw_at lw_m1 106 rfl) rfl
theorem q180 : (Jvm.Cond.soleField "DiskPacks$Head" "offset") ∈ lw_all := lw_g (lw_at lw_m1 111 rfl) rfl
theorem q182 : (Jvm.Cond.soleField "DiskPacks$Head" "isStruck") ∈ lw_all := lw_g (lw_at lw_m1 113 rfl) rfl
theorem q184 : (Jvm.Cond.soleField "DiskPacks$Head" "badPasses") ∈ lw_all := lw_g (lw_at lw_m1 115 rfl) rfl
theorem q931 : (Jvm.Cond.declares ({ cls := "DiskPacks$Head", name := "strike", desc := "()V" } : Jvm.MethodName)) ∈ lw_tbl := lw_at lw_m4 142 rfl
theorem q933 : (Jvm.Cond.instanceMethod ({ cls := "DiskPacks$Head", name := "strike", desc := "()V" } : Jvm.MethodName)) ∈ lw_all := lw_g (lw_at lw_m4 144 rfl) rfl
theorem q934 : (Jvm.Cond.code ({ cls := "DiskPacks$Head", name := "strike", desc := "()V" } : Jvm.MethodName) prog_4_method_4_code (1 : Nat) (Option.none : Option Jvm.ClassFile.FieldType)) ∈ lw_all := lw_g (lw_at lw_m4 145 rfl) rfl
theorem q1011 : (Jvm.Cond.instanceMethod ({ cls := "DiskPacks$Head", name := "mend", desc := "()V" } : Jvm.MethodName)) ∈ lw_all := lw_g (lw_at lw_m4 222 rfl) rfl
theorem q1012 : (Jvm.Cond.sameMethod "DiskPacks$Head" "DiskPacks$Head" "mend" "()V") ∈ lw_all := lw_g (lw_at lw_m4 223 rfl) rfl
theorem q1015 : (Jvm.Cond.code ({ cls := "DiskPacks$Head", name := "mend", desc := "()V" } : Jvm.MethodName) prog_4_method_5_code (1 : Nat) (Option.none : Option Jvm.ClassFile.FieldType)) ∈ lw_all := lw_g (lw_at lw_m4 226 rfl) rfl
theorem q1055 : (Jvm.Cond.instanceMethod ({ cls := "DiskPacks$Head", name := "copy", desc := "()LDiskPacks$Head;" } : Jvm.MethodName)) ∈ lw_all := lw_g (lw_at lw_m5 26 rfl) rfl
theorem q1056 : (Jvm.Cond.sameMethod "DiskPacks$Head" "DiskPacks$Head" "copy" "()LDiskPacks$Head;") ∈ lw_all := lw_g (lw_at lw_m5 27 rfl) rfl
theorem q1059 : (Jvm.Cond.code ({ cls := "DiskPacks$Head", name := "copy", desc := "()LDiskPacks$Head;" } : Jvm.MethodName) prog_4_method_3_code (2 : Nat) (Option.some (Jvm.ClassFile.FieldType.object "DiskPacks$Head"))) ∈ lw_all := lw_g (lw_at lw_m5 30 rfl) rfl
theorem q1060 : (Jvm.Cond.methodLink "DiskPacks$Head" (7 : Nat) ({ cls := "DiskPacks$Head", name := "fresh", desc := "()LDiskPacks$Head;" } : Jvm.MethodName)) ∈ lw_all := lw_g (lw_at lw_m5 31 rfl) rfl
theorem q1061 : (Jvm.Cond.declares ({ cls := "DiskPacks$Head", name := "fresh", desc := "()LDiskPacks$Head;" } : Jvm.MethodName)) ∈ lw_tbl := lw_at lw_m5 32 rfl
theorem q1062 : (Jvm.Cond.sameMethod "DiskPacks$Head" "DiskPacks$Head" "fresh" "()LDiskPacks$Head;") ∈ lw_all := lw_g (lw_at lw_m5 33 rfl) rfl
theorem q2159 : (Jvm.Cond.sameMethod "DiskPacks$Head" "DiskPacks$Head" "strike" "()V") ∈ lw_all := lw_g (lw_at lw_m9 170 rfl) rfl
/-! DiskPacks$ServoHead -/
set_option maxRecDepth 100000
def RX5 : String := "DiskPacks$ServoHead"
def TX5 : u_T := fun k => match k with
  | 0 => ("DiskPacks$Head", "offset", "I", false)
  | 1 => ("DiskPacks$Head", "isStruck", "Z", false)
  | _ => ("DiskPacks$Head", "badPasses", "I", false)
def tyX5 : Nat → FieldType := fun k => match k with
  | 0 => .int
  | 1 => .boolean
  | _ => .int
abbrev wsX50 : List Cond := u_ws RX5 TX5 3
theorem nmX5 : ∀ a, a < 3 → ∀ b, b < 3 → a ≠ b → (TX5 a).2.1 ≠ (TX5 b).2.1 := by decide +kernel
theorem tyX5_ok : ∀ k, k < 3 → parseFieldDescriptor (TX5 k).2.2.1 = some (tyX5 k) := by decide +kernel
abbrev cX5_init : ByteArray := prog_8_method_1_code
def yX5_init : MethodName := ⟨RX5, "<init>", "()V"⟩
theorem dX5_init_0 : decode cX5_init 0 = .ok (.aload_n 0, 1) := by decide +kernel
theorem dX5_init_1 : decode cX5_init 1 = .ok (.invokespecial 1, 3) := by decide +kernel
theorem dX5_init_4 : decode cX5_init 4 = .ok (.return_, 1) := by decide +kernel
abbrev cX5_fresh : ByteArray := prog_8_method_2_code
def yX5_fresh : MethodName := ⟨RX5, "fresh", "()LDiskPacks$Head;"⟩
def dkwX5_fresh_0 : List UInt8 := [187, 0, 7, 89, 183, 0, 9, 176]
abbrev dktX5_fresh_0 : List UInt8 := dkwX5_fresh_0 ++ []
theorem dksX5_fresh_0 : cX5_fresh.data.toList.drop 0 = dktX5_fresh_0 := by decide +kernel
theorem dX5_fresh_0 : decode cX5_fresh 0 = .ok (.new 7, 3) := dk_187 0 7 (dk_at dksX5_fresh_0 0 rfl rfl)
theorem dX5_fresh_3 : decode cX5_fresh 3 = .ok (.dup, 1) := dk_89 (dk_at dksX5_fresh_0 3 rfl rfl)
theorem dX5_fresh_4 : decode cX5_fresh 4 = .ok (.invokespecial 9, 3) := dk_183 0 9 (dk_at dksX5_fresh_0 4 rfl rfl)
theorem dX5_fresh_7 : decode cX5_fresh 7 = .ok (.areturn, 1) := dk_176 (dk_at dksX5_fresh_0 7 rfl rfl)
theorem q77 : (Jvm.Cond.initialized "DiskPacks$ServoHead") ∈ lw_all := lw_g (lw_at lw_m1 8 rfl) rfl
theorem q157 : (Jvm.Cond.instantiable "DiskPacks$ServoHead" (3 : Nat)) ∈ lw_all := lw_g (lw_at lw_m1 88 rfl) rfl
theorem q159 : (Jvm.Cond.instanceMethod ({ cls := "DiskPacks$ServoHead", name := "<init>", desc := "()V" } : Jvm.MethodName)) ∈ lw_all := lw_g (lw_at lw_m1 90 rfl) rfl
theorem q160 : (Jvm.Cond.code ({ cls := "DiskPacks$ServoHead", name := "<init>", desc := "()V" } : Jvm.MethodName) prog_8_method_1_code (1 : Nat) (Option.none : Option Jvm.ClassFile.FieldType)) ∈ lw_all := lw_g (lw_at lw_m1 91 rfl) rfl
theorem q161 : (Jvm.Cond.methodLinkNest "DiskPacks$ServoHead" (1 : Nat) ({ cls := "DiskPacks$Head", name := "<init>", desc := "()V" } : Jvm.MethodName) "DiskPacks") ∈ lw_tbl := lw_at lw_m1 92 rfl
theorem q179 : (Jvm.Cond.lays "DiskPacks$ServoHead" "DiskPacks$Head" "offset" "I") ∈ lw_all := lw_g (lw_at lw_m1 110 rfl) rfl
theorem q181 : (Jvm.Cond.lays "DiskPacks$ServoHead" "DiskPacks$Head" "isStruck" "Z") ∈ lw_all := lw_g (lw_at lw_m1 112 rfl) rfl
theorem q183 : (Jvm.Cond.lays "DiskPacks$ServoHead" "DiskPacks$Head" "badPasses" "I") ∈ lw_all := lw_g (lw_at lw_m1 114 rfl) rfl
theorem q185 : (Jvm.Cond.superclass "DiskPacks$ServoHead" "DiskPacks$Head") ∈ lw_all := lw_g (lw_at lw_m1 116 rfl) rfl
theorem q1014 : (Jvm.Cond.selects "DiskPacks$ServoHead" ({ cls := "DiskPacks$Head", name := "mend", desc := "()V" } : Jvm.MethodName) ({ cls := "DiskPacks$Head", name := "mend", desc := "()V" } : Jvm.MethodName)) ∈ lw_all := lw_g (lw_at lw_m4 225 rfl) rfl
theorem q1058 : (Jvm.Cond.selects "DiskPacks$ServoHead" ({ cls := "DiskPacks$Head", name := "copy", desc := "()LDiskPacks$Head;" } : Jvm.MethodName) ({ cls := "DiskPacks$Head", name := "copy", desc := "()LDiskPacks$Head;" } : Jvm.MethodName)) ∈ lw_all := lw_g (lw_at lw_m5 29 rfl) rfl
theorem q1068 : (Jvm.Cond.selects "DiskPacks$ServoHead" ({ cls := "DiskPacks$Head", name := "fresh", desc := "()LDiskPacks$Head;" } : Jvm.MethodName) ({ cls := "DiskPacks$ServoHead", name := "fresh", desc := "()LDiskPacks$Head;" } : Jvm.MethodName)) ∈ lw_all := lw_g (lw_at lw_m5 39 rfl) rfl
theorem q1069 : (Jvm.Cond.instanceMethod ({ cls := "DiskPacks$ServoHead", name := "fresh", desc := "()LDiskPacks$Head;" } : Jvm.MethodName)) ∈ lw_all := lw_g (lw_at lw_m5 40 rfl) rfl
theorem q1070 : (Jvm.Cond.code ({ cls := "DiskPacks$ServoHead", name := "fresh", desc := "()LDiskPacks$Head;" } : Jvm.MethodName) prog_8_method_2_code (1 : Nat) (Option.some (Jvm.ClassFile.FieldType.object "DiskPacks$Head"))) ∈ lw_all := lw_g (lw_at lw_m5 41 rfl) rfl
theorem q1071 : (Jvm.Cond.classLink "DiskPacks$ServoHead" (7 : Nat) "DiskPacks$ServoHead") ∈ lw_all := lw_g (lw_at lw_m5 42 rfl) rfl
theorem q1072 : (Jvm.Cond.methodLink "DiskPacks$ServoHead" (9 : Nat) ({ cls := "DiskPacks$ServoHead", name := "<init>", desc := "()V" } : Jvm.MethodName)) ∈ lw_all := lw_g (lw_at lw_m5 43 rfl) rfl
theorem q1173 : (Jvm.Cond.selects "DiskPacks$ServoHead" ({ cls := "java/lang/Object", name := "getClass", desc := "()Ljava/lang/Class;" } : Jvm.MethodName) ({ cls := "java/lang/Object", name := "getClass", desc := "()Ljava/lang/Class;" } : Jvm.MethodName)) ∈ lw_all := lw_g (lw_at lw_m5 144 rfl) rfl
theorem q2161 : (Jvm.Cond.selects "DiskPacks$ServoHead" ({ cls := "DiskPacks$Head", name := "strike", desc := "()V" } : Jvm.MethodName) ({ cls := "DiskPacks$Head", name := "strike", desc := "()V" } : Jvm.MethodName)) ∈ lw_all := lw_g (lw_at lw_m9 172 rfl) rfl
theorem q2174 : (Jvm.Cond.castable "DiskPacks$ServoHead" "java/lang/Object") ∈ lw_tbl := lw_at lw_m9 185 rfl
theorem in_X5 : ∀ w ∈ wsX50, w ∈ lw_all := lw_in wsX50 [179, 181, 183] (by decide +kernel) (by decide +kernel)
/-! DiskPacks$DataHead -/
set_option maxRecDepth 100000
def RX6 : String := "DiskPacks$DataHead"
def TX6 : u_T := fun k => match k with
  | 0 => ("DiskPacks$Head", "offset", "I", false)
  | 1 => ("DiskPacks$Head", "isStruck", "Z", false)
  | _ => ("DiskPacks$Head", "badPasses", "I", false)
def tyX6 : Nat → FieldType := fun k => match k with
  | 0 => .int
  | 1 => .boolean
  | _ => .int
abbrev wsX60 : List Cond := u_ws RX6 TX6 3
theorem nmX6 : ∀ a, a < 3 → ∀ b, b < 3 → a ≠ b → (TX6 a).2.1 ≠ (TX6 b).2.1 := by decide +kernel
theorem tyX6_ok : ∀ k, k < 3 → parseFieldDescriptor (TX6 k).2.2.1 = some (tyX6 k) := by decide +kernel
abbrev cX6_init : ByteArray := prog_2_method_1_code
def yX6_init : MethodName := ⟨RX6, "<init>", "()V"⟩
theorem dX6_init_0 : decode cX6_init 0 = .ok (.aload_n 0, 1) := by decide +kernel
theorem dX6_init_1 : decode cX6_init 1 = .ok (.invokespecial 1, 3) := by decide +kernel
theorem dX6_init_4 : decode cX6_init 4 = .ok (.return_, 1) := by decide +kernel
abbrev cX6_weakened : ByteArray := prog_2_method_3_code
def yX6_weakened : MethodName := ⟨RX6, "weakened", "(F)F"⟩
def dkwX6_weakened_0 : List UInt8 := [42, 180, 0, 10, 153, 0, 9, 35, 13, 110, 167, 0, 4, 35, 174]
abbrev dktX6_weakened_0 : List UInt8 := dkwX6_weakened_0 ++ []
theorem dksX6_weakened_0 : cX6_weakened.data.toList.drop 0 = dktX6_weakened_0 := by decide +kernel
theorem dX6_weakened_0 : decode cX6_weakened 0 = .ok (.aload_n 0, 1) := dk_42 (dk_at dksX6_weakened_0 0 rfl rfl)
theorem dX6_weakened_1 : decode cX6_weakened 1 = .ok (.getfield 10, 3) := dk_180 0 10 (dk_at dksX6_weakened_0 1 rfl rfl)
theorem dX6_weakened_4 : decode cX6_weakened 4 = .ok (.ifCond .eq 9, 3) := dk_153 0 9 (dk_at dksX6_weakened_0 4 rfl rfl)
theorem dX6_weakened_7 : decode cX6_weakened 7 = .ok (.fload_n 1, 1) := dk_35 (dk_at dksX6_weakened_0 7 rfl rfl)
theorem dX6_weakened_8 : decode cX6_weakened 8 = .ok (.fconst 2, 1) := dk_13 (dk_at dksX6_weakened_0 8 rfl rfl)
theorem dX6_weakened_9 : decode cX6_weakened 9 = .ok (.fdiv, 1) := dk_110 (dk_at dksX6_weakened_0 9 rfl rfl)
theorem dX6_weakened_10 : decode cX6_weakened 10 = .ok (.goto 4, 3) := dk_167 0 4 (dk_at dksX6_weakened_0 10 rfl rfl)
theorem dX6_weakened_13 : decode cX6_weakened 13 = .ok (.fload_n 1, 1) := dk_35 (dk_at dksX6_weakened_0 13 rfl rfl)
theorem dX6_weakened_14 : decode cX6_weakened 14 = .ok (.freturn, 1) := dk_174 (dk_at dksX6_weakened_0 14 rfl rfl)
abbrev cX6_fresh : ByteArray := prog_2_method_2_code
def yX6_fresh : MethodName := ⟨RX6, "fresh", "()LDiskPacks$Head;"⟩
def dkwX6_fresh_0 : List UInt8 := [187, 0, 7, 89, 183, 0, 9, 176]
abbrev dktX6_fresh_0 : List UInt8 := dkwX6_fresh_0 ++ []
theorem dksX6_fresh_0 : cX6_fresh.data.toList.drop 0 = dktX6_fresh_0 := by decide +kernel
theorem dX6_fresh_0 : decode cX6_fresh 0 = .ok (.new 7, 3) := dk_187 0 7 (dk_at dksX6_fresh_0 0 rfl rfl)
theorem dX6_fresh_3 : decode cX6_fresh 3 = .ok (.dup, 1) := dk_89 (dk_at dksX6_fresh_0 3 rfl rfl)
theorem dX6_fresh_4 : decode cX6_fresh 4 = .ok (.invokespecial 9, 3) := dk_183 0 9 (dk_at dksX6_fresh_0 4 rfl rfl)
theorem dX6_fresh_7 : decode cX6_fresh 7 = .ok (.areturn, 1) := dk_176 (dk_at dksX6_fresh_0 7 rfl rfl)
theorem q78 : (Jvm.Cond.initialized "DiskPacks$DataHead") ∈ lw_all := lw_g (lw_at lw_m1 9 rfl) rfl
theorem q169 : (Jvm.Cond.fieldLink "DiskPacks$DataHead" (10 : Nat) "DiskPacks$DataHead" "isStruck" "Z") ∈ lw_all := lw_g (lw_at lw_m1 100 rfl) rfl
theorem q170 : (Jvm.Cond.sameField "DiskPacks$DataHead" "DiskPacks$Head" "isStruck" "Z") ∈ lw_all := lw_g (lw_at lw_m1 101 rfl) rfl
theorem q177 : (Jvm.Cond.sameField "DiskPacks$DataHead" "DiskPacks$Head" "badPasses" "I") ∈ lw_all := lw_g (lw_at lw_m1 108 rfl) rfl
theorem q187 : (Jvm.Cond.instantiable "DiskPacks$DataHead" (3 : Nat)) ∈ lw_all := lw_g (lw_at lw_m1 118 rfl) rfl
theorem q189 : (Jvm.Cond.instanceMethod ({ cls := "DiskPacks$DataHead", name := "<init>", desc := "()V" } : Jvm.MethodName)) ∈ lw_all := lw_g (lw_at lw_m1 120 rfl) rfl
theorem q190 : (Jvm.Cond.code ({ cls := "DiskPacks$DataHead", name := "<init>", desc := "()V" } : Jvm.MethodName) prog_2_method_1_code (1 : Nat) (Option.none : Option Jvm.ClassFile.FieldType)) ∈ lw_all := lw_g (lw_at lw_m1 121 rfl) rfl
theorem q191 : (Jvm.Cond.methodLinkNest "DiskPacks$DataHead" (1 : Nat) ({ cls := "DiskPacks$Head", name := "<init>", desc := "()V" } : Jvm.MethodName) "DiskPacks") ∈ lw_tbl := lw_at lw_m1 122 rfl
theorem q192 : (Jvm.Cond.lays "DiskPacks$DataHead" "DiskPacks$Head" "offset" "I") ∈ lw_all := lw_g (lw_at lw_m1 123 rfl) rfl
theorem q193 : (Jvm.Cond.lays "DiskPacks$DataHead" "DiskPacks$Head" "isStruck" "Z") ∈ lw_all := lw_g (lw_at lw_m1 124 rfl) rfl
theorem q194 : (Jvm.Cond.lays "DiskPacks$DataHead" "DiskPacks$Head" "badPasses" "I") ∈ lw_all := lw_g (lw_at lw_m1 125 rfl) rfl
theorem q195 : (Jvm.Cond.superclass "DiskPacks$DataHead" "DiskPacks$Head") ∈ lw_all := lw_g (lw_at lw_m1 126 rfl) rfl
theorem q890 : (Jvm.Cond.instanceMethod ({ cls := "DiskPacks$DataHead", name := "weakened", desc := "(F)F" } : Jvm.MethodName)) ∈ lw_all := lw_g (lw_at lw_m4 101 rfl) rfl
theorem q891 : (Jvm.Cond.selects "DiskPacks$DataHead" ({ cls := "DiskPacks$DataHead", name := "weakened", desc := "(F)F" } : Jvm.MethodName) ({ cls := "DiskPacks$DataHead", name := "weakened", desc := "(F)F" } : Jvm.MethodName)) ∈ lw_all := lw_g (lw_at lw_m4 102 rfl) rfl
theorem q892 : (Jvm.Cond.code ({ cls := "DiskPacks$DataHead", name := "weakened", desc := "(F)F" } : Jvm.MethodName) prog_2_method_3_code (2 : Nat) (Option.some Jvm.ClassFile.FieldType.float)) ∈ lw_all := lw_g (lw_at lw_m4 103 rfl) rfl
theorem q930 : (Jvm.Cond.sameMethod "DiskPacks$DataHead" "DiskPacks$Head" "strike" "()V") ∈ lw_all := lw_g (lw_at lw_m4 141 rfl) rfl
theorem q932 : (Jvm.Cond.selects "DiskPacks$DataHead" ({ cls := "DiskPacks$DataHead", name := "strike", desc := "()V" } : Jvm.MethodName) ({ cls := "DiskPacks$Head", name := "strike", desc := "()V" } : Jvm.MethodName)) ∈ lw_all := lw_g (lw_at lw_m4 143 rfl) rfl
theorem q1013 : (Jvm.Cond.selects "DiskPacks$DataHead" ({ cls := "DiskPacks$Head", name := "mend", desc := "()V" } : Jvm.MethodName) ({ cls := "DiskPacks$Head", name := "mend", desc := "()V" } : Jvm.MethodName)) ∈ lw_all := lw_g (lw_at lw_m4 224 rfl) rfl
theorem q1057 : (Jvm.Cond.selects "DiskPacks$DataHead" ({ cls := "DiskPacks$Head", name := "copy", desc := "()LDiskPacks$Head;" } : Jvm.MethodName) ({ cls := "DiskPacks$Head", name := "copy", desc := "()LDiskPacks$Head;" } : Jvm.MethodName)) ∈ lw_all := lw_g (lw_at lw_m5 28 rfl) rfl
theorem q1063 : (Jvm.Cond.selects "DiskPacks$DataHead" ({ cls := "DiskPacks$Head", name := "fresh", desc := "()LDiskPacks$Head;" } : Jvm.MethodName) ({ cls := "DiskPacks$DataHead", name := "fresh", desc := "()LDiskPacks$Head;" } : Jvm.MethodName)) ∈ lw_all := lw_g (lw_at lw_m5 34 rfl) rfl
theorem q1064 : (Jvm.Cond.instanceMethod ({ cls := "DiskPacks$DataHead", name := "fresh", desc := "()LDiskPacks$Head;" } : Jvm.MethodName)) ∈ lw_all := lw_g (lw_at lw_m5 35 rfl) rfl
theorem q1065 : (Jvm.Cond.code ({ cls := "DiskPacks$DataHead", name := "fresh", desc := "()LDiskPacks$Head;" } : Jvm.MethodName) prog_2_method_2_code (1 : Nat) (Option.some (Jvm.ClassFile.FieldType.object "DiskPacks$Head"))) ∈ lw_all := lw_g (lw_at lw_m5 36 rfl) rfl
theorem q1066 : (Jvm.Cond.classLink "DiskPacks$DataHead" (7 : Nat) "DiskPacks$DataHead") ∈ lw_all := lw_g (lw_at lw_m5 37 rfl) rfl
theorem q1067 : (Jvm.Cond.methodLink "DiskPacks$DataHead" (9 : Nat) ({ cls := "DiskPacks$DataHead", name := "<init>", desc := "()V" } : Jvm.MethodName)) ∈ lw_all := lw_g (lw_at lw_m5 38 rfl) rfl
theorem q1170 : (Jvm.Cond.selects "DiskPacks$DataHead" ({ cls := "java/lang/Object", name := "getClass", desc := "()Ljava/lang/Class;" } : Jvm.MethodName) ({ cls := "java/lang/Object", name := "getClass", desc := "()Ljava/lang/Class;" } : Jvm.MethodName)) ∈ lw_all := lw_g (lw_at lw_m5 141 rfl) rfl
theorem q2160 : (Jvm.Cond.selects "DiskPacks$DataHead" ({ cls := "DiskPacks$Head", name := "strike", desc := "()V" } : Jvm.MethodName) ({ cls := "DiskPacks$Head", name := "strike", desc := "()V" } : Jvm.MethodName)) ∈ lw_all := lw_g (lw_at lw_m9 171 rfl) rfl
theorem q2167 : (Jvm.Cond.castable "DiskPacks$DataHead" "java/lang/Object") ∈ lw_tbl := lw_at lw_m9 178 rfl
theorem in_X6 : ∀ w ∈ wsX60, w ∈ lw_all := lw_in wsX60 [192, 193, 194] (by decide +kernel) (by decide +kernel)
