/-! DiskPacksModel -/
set_option maxRecDepth 100000
def RX7 : String := "DiskPacksModel"
def TX7 : u_T := fun k => match k with
  | 0 => ("DiskPacksModel", "row", "[I", true)
  | 1 => ("DiskPacksModel", "strength", "[F", true)
  | 2 => ("DiskPacksModel", "saved", "[I", true)
  | 3 => ("DiskPacksModel", "savedStrength", "[F", true)
  | 4 => ("DiskPacksModel", "savedMany", "I", false)
  | 5 => ("DiskPacksModel", "kept", "[I", true)
  | 6 => ("DiskPacksModel", "keptStrength", "[F", true)
  | 7 => ("DiskPacksModel", "isKept", "Z", false)
  | 8 => ("DiskPacksModel", "buffer", "[I", true)
  | 9 => ("DiskPacksModel", "length", "I", false)
  | 10 => ("DiskPacksModel", "thrown", "I", false)
  | 11 => ("DiskPacksModel", "spot", "I", false)
  | 12 => ("DiskPacksModel", "isWell", "Z", false)
  | 13 => ("DiskPacksModel", "order", "I", false)
  | 14 => ("DiskPacksModel", "first", "I", false)
  | 15 => ("DiskPacksModel", "second", "I", false)
  | _ => ("DiskPacksModel", "third", "I", false)
def tyX7 : Nat → FieldType := fun k => match k with
  | 0 => .array .int
  | 1 => .array .float
  | 2 => .array .int
  | 3 => .array .float
  | 4 => .int
  | 5 => .array .int
  | 6 => .array .float
  | 7 => .boolean
  | 8 => .array .int
  | 9 => .int
  | 10 => .int
  | 11 => .int
  | 12 => .boolean
  | 13 => .int
  | 14 => .int
  | 15 => .int
  | _ => .int
abbrev wsX70 : List Cond := u_ws RX7 TX7 17
set_option maxRecDepth 100000 in
theorem nmX7 : ∀ a, a < 17 → ∀ b, b < 17 → a ≠ b → (TX7 a).2.1 ≠ (TX7 b).2.1 := by decide +kernel
set_option maxRecDepth 100000 in
theorem tyX7_ok : ∀ k, k < 17 → parseFieldDescriptor (TX7 k).2.2.1 = some (tyX7 k) := by decide +kernel
abbrev cX7_init : ByteArray := prog_13_method_1_code
def yX7_init : MethodName := ⟨RX7, "<init>", "()V"⟩
def dkwX7_init_5 : List UInt8 := [132, 1, 1, 167, 255, 236, 177]
abbrev dktX7_init_5 : List UInt8 := dkwX7_init_5 ++ []
def dkwX7_init_4 : List UInt8 := [167, 255, 238, 3, 60, 27, 17, 2, 208, 162, 0, 19, 42, 180, 0, 7, 16, 126, 27, 96, 2, 79]
abbrev dktX7_init_4 : List UInt8 := dkwX7_init_4 ++ dktX7_init_5
def dkwX7_init_3 : List UInt8 := [16, 88, 7, 79, 3, 60, 27, 7, 162, 0, 19, 42, 180, 0, 7, 16, 60, 27, 96, 2, 79, 132, 1, 1]
abbrev dktX7_init_3 : List UInt8 := dkwX7_init_3 ++ dktX7_init_4
def dkwX7_init_2 : List UInt8 := [181, 0, 23, 42, 17, 2, 208, 188, 6, 181, 0, 26, 42, 16, 60, 188, 10, 181, 0, 29, 42, 180, 0, 7]
abbrev dktX7_init_2 : List UInt8 := dkwX7_init_2 ++ dktX7_init_3
def dkwX7_init_1 : List UInt8 := [17, 30, 150, 188, 10, 181, 0, 17, 42, 17, 14, 16, 188, 6, 181, 0, 20, 42, 17, 6, 30, 188, 10]
abbrev dktX7_init_1 : List UInt8 := dkwX7_init_1 ++ dktX7_init_2
def dkwX7_init_0 : List UInt8 := [42, 183, 0, 1, 42, 17, 6, 30, 188, 10, 181, 0, 7, 42, 17, 2, 208, 188, 6, 181, 0, 13, 42]
abbrev dktX7_init_0 : List UInt8 := dkwX7_init_0 ++ dktX7_init_1
theorem dksX7_init_0 : cX7_init.data.toList.drop 0 = dktX7_init_0 := by decide +kernel
theorem dksX7_init_1 : cX7_init.data.toList.drop 23 = dktX7_init_1 := dk_seg dksX7_init_0 23 rfl rfl
theorem dksX7_init_2 : cX7_init.data.toList.drop 46 = dktX7_init_2 := dk_seg dksX7_init_1 23 rfl rfl
theorem dksX7_init_3 : cX7_init.data.toList.drop 70 = dktX7_init_3 := dk_seg dksX7_init_2 24 rfl rfl
theorem dksX7_init_4 : cX7_init.data.toList.drop 94 = dktX7_init_4 := dk_seg dksX7_init_3 24 rfl rfl
theorem dksX7_init_5 : cX7_init.data.toList.drop 116 = dktX7_init_5 := dk_seg dksX7_init_4 22 rfl rfl
theorem dX7_init_0 : decode cX7_init 0 = .ok (.aload_n 0, 1) := dk_42 (dk_at dksX7_init_0 0 rfl rfl)
theorem dX7_init_1 : decode cX7_init 1 = .ok (.invokespecial 1, 3) := dk_183 0 1 (dk_at dksX7_init_0 1 rfl rfl)
theorem dX7_init_4 : decode cX7_init 4 = .ok (.aload_n 0, 1) := dk_42 (dk_at dksX7_init_0 4 rfl rfl)
theorem dX7_init_5 : decode cX7_init 5 = .ok (.sipush 1566, 3) := dk_17 6 30 (dk_at dksX7_init_0 5 rfl rfl)
theorem dX7_init_8 : decode cX7_init 8 = .ok (.newarray .int, 2) := dk_188_10 (dk_at dksX7_init_0 8 rfl rfl)
theorem dX7_init_10 : decode cX7_init 10 = .ok (.putfield 7, 3) := dk_181 0 7 (dk_at dksX7_init_0 10 rfl rfl)
theorem dX7_init_13 : decode cX7_init 13 = .ok (.aload_n 0, 1) := dk_42 (dk_at dksX7_init_0 13 rfl rfl)
theorem dX7_init_14 : decode cX7_init 14 = .ok (.sipush 720, 3) := dk_17 2 208 (dk_at dksX7_init_0 14 rfl rfl)
theorem dX7_init_17 : decode cX7_init 17 = .ok (.newarray .float, 2) := dk_188_6 (dk_at dksX7_init_0 17 rfl rfl)
theorem dX7_init_19 : decode cX7_init 19 = .ok (.putfield 13, 3) := dk_181 0 13 (dk_at dksX7_init_0 19 rfl rfl)
theorem dX7_init_22 : decode cX7_init 22 = .ok (.aload_n 0, 1) := dk_42 (dk_at dksX7_init_0 22 rfl rfl)
theorem dX7_init_23 : decode cX7_init 23 = .ok (.sipush 7830, 3) := dk_17 30 150 (dk_at dksX7_init_1 0 rfl rfl)
theorem dX7_init_26 : decode cX7_init 26 = .ok (.newarray .int, 2) := dk_188_10 (dk_at dksX7_init_1 3 rfl rfl)
theorem dX7_init_28 : decode cX7_init 28 = .ok (.putfield 17, 3) := dk_181 0 17 (dk_at dksX7_init_1 5 rfl rfl)
theorem dX7_init_31 : decode cX7_init 31 = .ok (.aload_n 0, 1) := dk_42 (dk_at dksX7_init_1 8 rfl rfl)
theorem dX7_init_32 : decode cX7_init 32 = .ok (.sipush 3600, 3) := dk_17 14 16 (dk_at dksX7_init_1 9 rfl rfl)
theorem dX7_init_35 : decode cX7_init 35 = .ok (.newarray .float, 2) := dk_188_6 (dk_at dksX7_init_1 12 rfl rfl)
theorem dX7_init_37 : decode cX7_init 37 = .ok (.putfield 20, 3) := dk_181 0 20 (dk_at dksX7_init_1 14 rfl rfl)
theorem dX7_init_40 : decode cX7_init 40 = .ok (.aload_n 0, 1) := dk_42 (dk_at dksX7_init_1 17 rfl rfl)
theorem dX7_init_41 : decode cX7_init 41 = .ok (.sipush 1566, 3) := dk_17 6 30 (dk_at dksX7_init_1 18 rfl rfl)
theorem dX7_init_44 : decode cX7_init 44 = .ok (.newarray .int, 2) := dk_188_10 (dk_at dksX7_init_1 21 rfl rfl)
theorem dX7_init_46 : decode cX7_init 46 = .ok (.putfield 23, 3) := dk_181 0 23 (dk_at dksX7_init_2 0 rfl rfl)
theorem dX7_init_49 : decode cX7_init 49 = .ok (.aload_n 0, 1) := dk_42 (dk_at dksX7_init_2 3 rfl rfl)
theorem dX7_init_50 : decode cX7_init 50 = .ok (.sipush 720, 3) := dk_17 2 208 (dk_at dksX7_init_2 4 rfl rfl)
theorem dX7_init_53 : decode cX7_init 53 = .ok (.newarray .float, 2) := dk_188_6 (dk_at dksX7_init_2 7 rfl rfl)
theorem dX7_init_55 : decode cX7_init 55 = .ok (.putfield 26, 3) := dk_181 0 26 (dk_at dksX7_init_2 9 rfl rfl)
theorem dX7_init_58 : decode cX7_init 58 = .ok (.aload_n 0, 1) := dk_42 (dk_at dksX7_init_2 12 rfl rfl)
theorem dX7_init_59 : decode cX7_init 59 = .ok (.bipush 60, 2) := dk_16 60 (dk_at dksX7_init_2 13 rfl rfl)
theorem dX7_init_61 : decode cX7_init 61 = .ok (.newarray .int, 2) := dk_188_10 (dk_at dksX7_init_2 15 rfl rfl)
theorem dX7_init_63 : decode cX7_init 63 = .ok (.putfield 29, 3) := dk_181 0 29 (dk_at dksX7_init_2 17 rfl rfl)
theorem dX7_init_66 : decode cX7_init 66 = .ok (.aload_n 0, 1) := dk_42 (dk_at dksX7_init_2 20 rfl rfl)
theorem dX7_init_67 : decode cX7_init 67 = .ok (.getfield 7, 3) := dk_180 0 7 (dk_at dksX7_init_2 21 rfl rfl)
theorem dX7_init_70 : decode cX7_init 70 = .ok (.bipush 88, 2) := dk_16 88 (dk_at dksX7_init_3 0 rfl rfl)
theorem dX7_init_72 : decode cX7_init 72 = .ok (.iconst 4, 1) := dk_7 (dk_at dksX7_init_3 2 rfl rfl)
theorem dX7_init_73 : decode cX7_init 73 = .ok (.iastore, 1) := dk_79 (dk_at dksX7_init_3 3 rfl rfl)
theorem dX7_init_74 : decode cX7_init 74 = .ok (.iconst 0, 1) := dk_3 (dk_at dksX7_init_3 4 rfl rfl)
theorem dX7_init_75 : decode cX7_init 75 = .ok (.istore_n 1, 1) := dk_60 (dk_at dksX7_init_3 5 rfl rfl)
theorem dX7_init_76 : decode cX7_init 76 = .ok (.iload_n 1, 1) := dk_27 (dk_at dksX7_init_3 6 rfl rfl)
theorem dX7_init_77 : decode cX7_init 77 = .ok (.iconst 4, 1) := dk_7 (dk_at dksX7_init_3 7 rfl rfl)
theorem dX7_init_78 : decode cX7_init 78 = .ok (.if_icmp .ge 19, 3) := dk_162 0 19 (dk_at dksX7_init_3 8 rfl rfl)
theorem dX7_init_81 : decode cX7_init 81 = .ok (.aload_n 0, 1) := dk_42 (dk_at dksX7_init_3 11 rfl rfl)
theorem dX7_init_82 : decode cX7_init 82 = .ok (.getfield 7, 3) := dk_180 0 7 (dk_at dksX7_init_3 12 rfl rfl)
theorem dX7_init_85 : decode cX7_init 85 = .ok (.bipush 60, 2) := dk_16 60 (dk_at dksX7_init_3 15 rfl rfl)
theorem dX7_init_87 : decode cX7_init 87 = .ok (.iload_n 1, 1) := dk_27 (dk_at dksX7_init_3 17 rfl rfl)
theorem dX7_init_88 : decode cX7_init 88 = .ok (.iadd, 1) := dk_96 (dk_at dksX7_init_3 18 rfl rfl)
theorem dX7_init_89 : decode cX7_init 89 = .ok (.iconst (-1), 1) := dk_2 (dk_at dksX7_init_3 19 rfl rfl)
theorem dX7_init_90 : decode cX7_init 90 = .ok (.iastore, 1) := dk_79 (dk_at dksX7_init_3 20 rfl rfl)
theorem dX7_init_91 : decode cX7_init 91 = .ok (.iinc 1 1, 3) := dk_132 1 1 (dk_at dksX7_init_3 21 rfl rfl)
theorem dX7_init_94 : decode cX7_init 94 = .ok (.goto (-18), 3) := dk_167 255 238 (dk_at dksX7_init_4 0 rfl rfl)
theorem dX7_init_97 : decode cX7_init 97 = .ok (.iconst 0, 1) := dk_3 (dk_at dksX7_init_4 3 rfl rfl)
theorem dX7_init_98 : decode cX7_init 98 = .ok (.istore_n 1, 1) := dk_60 (dk_at dksX7_init_4 4 rfl rfl)
theorem dX7_init_99 : decode cX7_init 99 = .ok (.iload_n 1, 1) := dk_27 (dk_at dksX7_init_4 5 rfl rfl)
theorem dX7_init_100 : decode cX7_init 100 = .ok (.sipush 720, 3) := dk_17 2 208 (dk_at dksX7_init_4 6 rfl rfl)
theorem dX7_init_103 : decode cX7_init 103 = .ok (.if_icmp .ge 19, 3) := dk_162 0 19 (dk_at dksX7_init_4 9 rfl rfl)
theorem dX7_init_106 : decode cX7_init 106 = .ok (.aload_n 0, 1) := dk_42 (dk_at dksX7_init_4 12 rfl rfl)
theorem dX7_init_107 : decode cX7_init 107 = .ok (.getfield 7, 3) := dk_180 0 7 (dk_at dksX7_init_4 13 rfl rfl)
theorem dX7_init_110 : decode cX7_init 110 = .ok (.bipush 126, 2) := dk_16 126 (dk_at dksX7_init_4 16 rfl rfl)
theorem dX7_init_112 : decode cX7_init 112 = .ok (.iload_n 1, 1) := dk_27 (dk_at dksX7_init_4 18 rfl rfl)
theorem dX7_init_113 : decode cX7_init 113 = .ok (.iadd, 1) := dk_96 (dk_at dksX7_init_4 19 rfl rfl)
theorem dX7_init_114 : decode cX7_init 114 = .ok (.iconst (-1), 1) := dk_2 (dk_at dksX7_init_4 20 rfl rfl)
theorem dX7_init_115 : decode cX7_init 115 = .ok (.iastore, 1) := dk_79 (dk_at dksX7_init_4 21 rfl rfl)
theorem dX7_init_116 : decode cX7_init 116 = .ok (.iinc 1 1, 3) := dk_132 1 1 (dk_at dksX7_init_5 0 rfl rfl)
theorem dX7_init_119 : decode cX7_init 119 = .ok (.goto (-20), 3) := dk_167 255 236 (dk_at dksX7_init_5 3 rfl rfl)
theorem dX7_init_122 : decode cX7_init 122 = .ok (.return_, 1) := dk_177 (dk_at dksX7_init_5 6 rfl rfl)
abbrev cX7_thrown : ByteArray := prog_13_method_2_code
def yX7_thrown : MethodName := ⟨RX7, "thrown", "()I"⟩
theorem dX7_thrown_0 : decode cX7_thrown 0 = .ok (.aload_n 0, 1) := by decide +kernel
theorem dX7_thrown_1 : decode cX7_thrown 1 = .ok (.getfield 32, 3) := by decide +kernel
theorem dX7_thrown_4 : decode cX7_thrown 4 = .ok (.ireturn, 1) := by decide +kernel
abbrev cX7_adjust : ByteArray := prog_13_method_21_code
def yX7_adjust : MethodName := ⟨RX7, "adjust", "(III)I"⟩
def dkwX7_adjust_2 : List UInt8 := [167, 0, 8, 42, 5, 182, 0, 78, 172]
abbrev dktX7_adjust_2 : List UInt8 := dkwX7_adjust_2 ++ []
def dkwX7_adjust_1 : List UInt8 := [172, 29, 16, 216, 16, 40, 184, 0, 36, 153, 0, 18, 42, 3, 27, 28, 184, 0, 40, 96, 29, 182, 0, 81]
abbrev dktX7_adjust_1 : List UInt8 := dkwX7_adjust_1 ++ dktX7_adjust_2
def dkwX7_adjust_0 : List UInt8 := [42, 3, 181, 0, 32, 27, 184, 0, 71, 153, 0, 10, 28, 184, 0, 75, 154, 0, 9, 42, 4, 182, 0, 78]
abbrev dktX7_adjust_0 : List UInt8 := dkwX7_adjust_0 ++ dktX7_adjust_1
theorem dksX7_adjust_0 : cX7_adjust.data.toList.drop 0 = dktX7_adjust_0 := by decide +kernel
theorem dksX7_adjust_1 : cX7_adjust.data.toList.drop 24 = dktX7_adjust_1 := dk_seg dksX7_adjust_0 24 rfl rfl
theorem dksX7_adjust_2 : cX7_adjust.data.toList.drop 48 = dktX7_adjust_2 := dk_seg dksX7_adjust_1 24 rfl rfl
theorem dX7_adjust_0 : decode cX7_adjust 0 = .ok (.aload_n 0, 1) := dk_42 (dk_at dksX7_adjust_0 0 rfl rfl)
theorem dX7_adjust_1 : decode cX7_adjust 1 = .ok (.iconst 0, 1) := dk_3 (dk_at dksX7_adjust_0 1 rfl rfl)
theorem dX7_adjust_2 : decode cX7_adjust 2 = .ok (.putfield 32, 3) := dk_181 0 32 (dk_at dksX7_adjust_0 2 rfl rfl)
theorem dX7_adjust_5 : decode cX7_adjust 5 = .ok (.iload_n 1, 1) := dk_27 (dk_at dksX7_adjust_0 5 rfl rfl)
theorem dX7_adjust_6 : decode cX7_adjust 6 = .ok (.invokestatic 71, 3) := dk_184 0 71 (dk_at dksX7_adjust_0 6 rfl rfl)
theorem dX7_adjust_9 : decode cX7_adjust 9 = .ok (.ifCond .eq 10, 3) := dk_153 0 10 (dk_at dksX7_adjust_0 9 rfl rfl)
theorem dX7_adjust_12 : decode cX7_adjust 12 = .ok (.iload_n 2, 1) := dk_28 (dk_at dksX7_adjust_0 12 rfl rfl)
theorem dX7_adjust_13 : decode cX7_adjust 13 = .ok (.invokestatic 75, 3) := dk_184 0 75 (dk_at dksX7_adjust_0 13 rfl rfl)
theorem dX7_adjust_16 : decode cX7_adjust 16 = .ok (.ifCond .ne 9, 3) := dk_154 0 9 (dk_at dksX7_adjust_0 16 rfl rfl)
theorem dX7_adjust_19 : decode cX7_adjust 19 = .ok (.aload_n 0, 1) := dk_42 (dk_at dksX7_adjust_0 19 rfl rfl)
theorem dX7_adjust_20 : decode cX7_adjust 20 = .ok (.iconst 1, 1) := dk_4 (dk_at dksX7_adjust_0 20 rfl rfl)
theorem dX7_adjust_21 : decode cX7_adjust 21 = .ok (.invokevirtual 78, 3) := dk_182 0 78 (dk_at dksX7_adjust_0 21 rfl rfl)
theorem dX7_adjust_24 : decode cX7_adjust 24 = .ok (.ireturn, 1) := dk_172 (dk_at dksX7_adjust_1 0 rfl rfl)
theorem dX7_adjust_25 : decode cX7_adjust 25 = .ok (.iload_n 3, 1) := dk_29 (dk_at dksX7_adjust_1 1 rfl rfl)
theorem dX7_adjust_26 : decode cX7_adjust 26 = .ok (.bipush (-40), 2) := dk_16 216 (dk_at dksX7_adjust_1 2 rfl rfl)
theorem dX7_adjust_28 : decode cX7_adjust 28 = .ok (.bipush 40, 2) := dk_16 40 (dk_at dksX7_adjust_1 4 rfl rfl)
theorem dX7_adjust_30 : decode cX7_adjust 30 = .ok (.invokestatic 36, 3) := dk_184 0 36 (dk_at dksX7_adjust_1 6 rfl rfl)
theorem dX7_adjust_33 : decode cX7_adjust 33 = .ok (.ifCond .eq 18, 3) := dk_153 0 18 (dk_at dksX7_adjust_1 9 rfl rfl)
theorem dX7_adjust_36 : decode cX7_adjust 36 = .ok (.aload_n 0, 1) := dk_42 (dk_at dksX7_adjust_1 12 rfl rfl)
theorem dX7_adjust_37 : decode cX7_adjust 37 = .ok (.iconst 0, 1) := dk_3 (dk_at dksX7_adjust_1 13 rfl rfl)
theorem dX7_adjust_38 : decode cX7_adjust 38 = .ok (.iload_n 1, 1) := dk_27 (dk_at dksX7_adjust_1 14 rfl rfl)
theorem dX7_adjust_39 : decode cX7_adjust 39 = .ok (.iload_n 2, 1) := dk_28 (dk_at dksX7_adjust_1 15 rfl rfl)
theorem dX7_adjust_40 : decode cX7_adjust 40 = .ok (.invokestatic 40, 3) := dk_184 0 40 (dk_at dksX7_adjust_1 16 rfl rfl)
theorem dX7_adjust_43 : decode cX7_adjust 43 = .ok (.iadd, 1) := dk_96 (dk_at dksX7_adjust_1 19 rfl rfl)
theorem dX7_adjust_44 : decode cX7_adjust 44 = .ok (.iload_n 3, 1) := dk_29 (dk_at dksX7_adjust_1 20 rfl rfl)
theorem dX7_adjust_45 : decode cX7_adjust 45 = .ok (.invokevirtual 81, 3) := dk_182 0 81 (dk_at dksX7_adjust_1 21 rfl rfl)
theorem dX7_adjust_48 : decode cX7_adjust 48 = .ok (.goto 8, 3) := dk_167 0 8 (dk_at dksX7_adjust_2 0 rfl rfl)
theorem dX7_adjust_51 : decode cX7_adjust 51 = .ok (.aload_n 0, 1) := dk_42 (dk_at dksX7_adjust_2 3 rfl rfl)
theorem dX7_adjust_52 : decode cX7_adjust 52 = .ok (.iconst 2, 1) := dk_5 (dk_at dksX7_adjust_2 4 rfl rfl)
theorem dX7_adjust_53 : decode cX7_adjust 53 = .ok (.invokevirtual 78, 3) := dk_182 0 78 (dk_at dksX7_adjust_2 5 rfl rfl)
theorem dX7_adjust_56 : decode cX7_adjust 56 = .ok (.ireturn, 1) := dk_172 (dk_at dksX7_adjust_2 8 rfl rfl)
abbrev cX7_isDrive : ByteArray := prog_13_method_6_code
def yX7_isDrive : MethodName := ⟨RX7, "isDrive", "(I)Z"⟩
def dkwX7_isDrive_0 : List UInt8 := [26, 3, 6, 184, 0, 36, 172]
abbrev dktX7_isDrive_0 : List UInt8 := dkwX7_isDrive_0 ++ []
theorem dksX7_isDrive_0 : cX7_isDrive.data.toList.drop 0 = dktX7_isDrive_0 := by decide +kernel
theorem dX7_isDrive_0 : decode cX7_isDrive 0 = .ok (.iload_n 0, 1) := dk_26 (dk_at dksX7_isDrive_0 0 rfl rfl)
theorem dX7_isDrive_1 : decode cX7_isDrive 1 = .ok (.iconst 0, 1) := dk_3 (dk_at dksX7_isDrive_0 1 rfl rfl)
theorem dX7_isDrive_2 : decode cX7_isDrive 2 = .ok (.iconst 3, 1) := dk_6 (dk_at dksX7_isDrive_0 2 rfl rfl)
theorem dX7_isDrive_3 : decode cX7_isDrive 3 = .ok (.invokestatic 36, 3) := dk_184 0 36 (dk_at dksX7_isDrive_0 3 rfl rfl)
theorem dX7_isDrive_6 : decode cX7_isDrive 6 = .ok (.ireturn, 1) := dk_172 (dk_at dksX7_isDrive_0 6 rfl rfl)
abbrev cX7_in : ByteArray := prog_13_method_5_code
def yX7_in : MethodName := ⟨RX7, "in", "(III)Z"⟩
def dkwX7_in_0 : List UInt8 := [26, 27, 161, 0, 12, 26, 28, 163, 0, 7, 4, 167, 0, 4, 3, 172]
abbrev dktX7_in_0 : List UInt8 := dkwX7_in_0 ++ []
theorem dksX7_in_0 : cX7_in.data.toList.drop 0 = dktX7_in_0 := by decide +kernel
theorem dX7_in_0 : decode cX7_in 0 = .ok (.iload_n 0, 1) := dk_26 (dk_at dksX7_in_0 0 rfl rfl)
theorem dX7_in_1 : decode cX7_in 1 = .ok (.iload_n 1, 1) := dk_27 (dk_at dksX7_in_0 1 rfl rfl)
theorem dX7_in_2 : decode cX7_in 2 = .ok (.if_icmp .lt 12, 3) := dk_161 0 12 (dk_at dksX7_in_0 2 rfl rfl)
theorem dX7_in_5 : decode cX7_in 5 = .ok (.iload_n 0, 1) := dk_26 (dk_at dksX7_in_0 5 rfl rfl)
theorem dX7_in_6 : decode cX7_in 6 = .ok (.iload_n 2, 1) := dk_28 (dk_at dksX7_in_0 6 rfl rfl)
theorem dX7_in_7 : decode cX7_in 7 = .ok (.if_icmp .gt 7, 3) := dk_163 0 7 (dk_at dksX7_in_0 7 rfl rfl)
theorem dX7_in_10 : decode cX7_in 10 = .ok (.iconst 1, 1) := dk_4 (dk_at dksX7_in_0 10 rfl rfl)
theorem dX7_in_11 : decode cX7_in 11 = .ok (.goto 4, 3) := dk_167 0 4 (dk_at dksX7_in_0 11 rfl rfl)
theorem dX7_in_14 : decode cX7_in 14 = .ok (.iconst 0, 1) := dk_3 (dk_at dksX7_in_0 14 rfl rfl)
theorem dX7_in_15 : decode cX7_in 15 = .ok (.ireturn, 1) := dk_172 (dk_at dksX7_in_0 15 rfl rfl)
abbrev cX7_isHead : ByteArray := prog_13_method_7_code
def yX7_isHead : MethodName := ⟨RX7, "isHead", "(I)Z"⟩
def dkwX7_isHead_0 : List UInt8 := [26, 3, 6, 184, 0, 36, 172]
abbrev dktX7_isHead_0 : List UInt8 := dkwX7_isHead_0 ++ []
theorem dksX7_isHead_0 : cX7_isHead.data.toList.drop 0 = dktX7_isHead_0 := by decide +kernel
theorem dX7_isHead_0 : decode cX7_isHead 0 = .ok (.iload_n 0, 1) := dk_26 (dk_at dksX7_isHead_0 0 rfl rfl)
theorem dX7_isHead_1 : decode cX7_isHead 1 = .ok (.iconst 0, 1) := dk_3 (dk_at dksX7_isHead_0 1 rfl rfl)
theorem dX7_isHead_2 : decode cX7_isHead 2 = .ok (.iconst 3, 1) := dk_6 (dk_at dksX7_isHead_0 2 rfl rfl)
theorem dX7_isHead_3 : decode cX7_isHead 3 = .ok (.invokestatic 36, 3) := dk_184 0 36 (dk_at dksX7_isHead_0 3 rfl rfl)
theorem dX7_isHead_6 : decode cX7_isHead 6 = .ok (.ireturn, 1) := dk_172 (dk_at dksX7_isHead_0 6 rfl rfl)
abbrev cX7_fails : ByteArray := prog_13_method_3_code
def yX7_fails : MethodName := ⟨RX7, "fails", "(I)I"⟩
def dkwX7_fails_0 : List UInt8 := [42, 27, 181, 0, 32, 3, 172]
abbrev dktX7_fails_0 : List UInt8 := dkwX7_fails_0 ++ []
theorem dksX7_fails_0 : cX7_fails.data.toList.drop 0 = dktX7_fails_0 := by decide +kernel
theorem dX7_fails_0 : decode cX7_fails 0 = .ok (.aload_n 0, 1) := dk_42 (dk_at dksX7_fails_0 0 rfl rfl)
theorem dX7_fails_1 : decode cX7_fails 1 = .ok (.iload_n 1, 1) := dk_27 (dk_at dksX7_fails_0 1 rfl rfl)
theorem dX7_fails_2 : decode cX7_fails 2 = .ok (.putfield 32, 3) := dk_181 0 32 (dk_at dksX7_fails_0 2 rfl rfl)
theorem dX7_fails_5 : decode cX7_fails 5 = .ok (.iconst 0, 1) := dk_3 (dk_at dksX7_fails_0 5 rfl rfl)
theorem dX7_fails_6 : decode cX7_fails 6 = .ok (.ireturn, 1) := dk_172 (dk_at dksX7_fails_0 6 rfl rfl)
abbrev cX7_head : ByteArray := prog_13_method_11_code
def yX7_head : MethodName := ⟨RX7, "head", "(II)I"⟩
def dkwX7_head_0 : List UInt8 := [7, 26, 104, 27, 96, 172]
abbrev dktX7_head_0 : List UInt8 := dkwX7_head_0 ++ []
theorem dksX7_head_0 : cX7_head.data.toList.drop 0 = dktX7_head_0 := by decide +kernel
theorem dX7_head_0 : decode cX7_head 0 = .ok (.iconst 4, 1) := dk_7 (dk_at dksX7_head_0 0 rfl rfl)
theorem dX7_head_1 : decode cX7_head 1 = .ok (.iload_n 0, 1) := dk_26 (dk_at dksX7_head_0 1 rfl rfl)
theorem dX7_head_2 : decode cX7_head 2 = .ok (.imul, 1) := dk_104 (dk_at dksX7_head_0 2 rfl rfl)
theorem dX7_head_3 : decode cX7_head 3 = .ok (.iload_n 1, 1) := dk_27 (dk_at dksX7_head_0 3 rfl rfl)
theorem dX7_head_4 : decode cX7_head 4 = .ok (.iadd, 1) := dk_96 (dk_at dksX7_head_0 4 rfl rfl)
theorem dX7_head_5 : decode cX7_head 5 = .ok (.ireturn, 1) := dk_172 (dk_at dksX7_head_0 5 rfl rfl)
abbrev cX7_sets : ByteArray := prog_13_method_20_code
def yX7_sets : MethodName := ⟨RX7, "sets", "(II)I"⟩
def dkwX7_sets_0 : List UInt8 := [42, 182, 0, 68, 42, 180, 0, 7, 27, 46, 62, 42, 180, 0, 7, 27, 28, 79, 29, 172]
abbrev dktX7_sets_0 : List UInt8 := dkwX7_sets_0 ++ []
theorem dksX7_sets_0 : cX7_sets.data.toList.drop 0 = dktX7_sets_0 := by decide +kernel
theorem dX7_sets_0 : decode cX7_sets 0 = .ok (.aload_n 0, 1) := dk_42 (dk_at dksX7_sets_0 0 rfl rfl)
theorem dX7_sets_1 : decode cX7_sets 1 = .ok (.invokevirtual 68, 3) := dk_182 0 68 (dk_at dksX7_sets_0 1 rfl rfl)
theorem dX7_sets_4 : decode cX7_sets 4 = .ok (.aload_n 0, 1) := dk_42 (dk_at dksX7_sets_0 4 rfl rfl)
theorem dX7_sets_5 : decode cX7_sets 5 = .ok (.getfield 7, 3) := dk_180 0 7 (dk_at dksX7_sets_0 5 rfl rfl)
theorem dX7_sets_8 : decode cX7_sets 8 = .ok (.iload_n 1, 1) := dk_27 (dk_at dksX7_sets_0 8 rfl rfl)
theorem dX7_sets_9 : decode cX7_sets 9 = .ok (.iaload, 1) := dk_46 (dk_at dksX7_sets_0 9 rfl rfl)
theorem dX7_sets_10 : decode cX7_sets 10 = .ok (.istore_n 3, 1) := dk_62 (dk_at dksX7_sets_0 10 rfl rfl)
theorem dX7_sets_11 : decode cX7_sets 11 = .ok (.aload_n 0, 1) := dk_42 (dk_at dksX7_sets_0 11 rfl rfl)
theorem dX7_sets_12 : decode cX7_sets 12 = .ok (.getfield 7, 3) := dk_180 0 7 (dk_at dksX7_sets_0 12 rfl rfl)
theorem dX7_sets_15 : decode cX7_sets 15 = .ok (.iload_n 1, 1) := dk_27 (dk_at dksX7_sets_0 15 rfl rfl)
theorem dX7_sets_16 : decode cX7_sets 16 = .ok (.iload_n 2, 1) := dk_28 (dk_at dksX7_sets_0 16 rfl rfl)
theorem dX7_sets_17 : decode cX7_sets 17 = .ok (.iastore, 1) := dk_79 (dk_at dksX7_sets_0 17 rfl rfl)
theorem dX7_sets_18 : decode cX7_sets 18 = .ok (.iload_n 3, 1) := dk_29 (dk_at dksX7_sets_0 18 rfl rfl)
theorem dX7_sets_19 : decode cX7_sets 19 = .ok (.ireturn, 1) := dk_172 (dk_at dksX7_sets_0 19 rfl rfl)
abbrev cX7_records : ByteArray := prog_13_method_19_code
def yX7_records : MethodName := ⟨RX7, "records", "()V"⟩
def dkwX7_records_7 : List UInt8 := [181, 0, 65, 177]
abbrev dktX7_records_7 : List UInt8 := dkwX7_records_7 ++ []
def dkwX7_records_6 : List UInt8 := [27, 96, 42, 180, 0, 13, 27, 48, 81, 132, 1, 1, 167, 255, 225, 42, 89, 180, 0, 65, 4, 96]
abbrev dktX7_records_6 : List UInt8 := dkwX7_records_6 ++ dktX7_records_7
def dkwX7_records_5 : List UInt8 := [167, 255, 225, 3, 60, 27, 17, 2, 208, 162, 0, 30, 42, 180, 0, 20, 17, 2, 208, 42, 180, 0, 65, 104]
abbrev dktX7_records_5 : List UInt8 := dkwX7_records_5 ++ dktX7_records_6
def dkwX7_records_4 : List UInt8 := [180, 0, 17, 17, 6, 30, 42, 180, 0, 65, 104, 27, 96, 42, 180, 0, 7, 27, 46, 79, 132, 1, 1]
abbrev dktX7_records_4 : List UInt8 := dkwX7_records_4 ++ dktX7_records_5
def dkwX7_records_3 : List UInt8 := [167, 255, 230, 42, 89, 180, 0, 65, 4, 100, 181, 0, 65, 3, 60, 27, 17, 6, 30, 162, 0, 30, 42]
abbrev dktX7_records_3 : List UInt8 := dkwX7_records_3 ++ dktX7_records_4
def dkwX7_records_2 : List UInt8 := [162, 0, 25, 42, 180, 0, 20, 27, 42, 180, 0, 20, 17, 2, 208, 27, 96, 48, 81, 132, 1, 1]
abbrev dktX7_records_2 : List UInt8 := dkwX7_records_2 ++ dktX7_records_3
def dkwX7_records_1 : List UInt8 := [180, 0, 17, 17, 6, 30, 27, 96, 46, 79, 132, 1, 1, 167, 255, 230, 3, 60, 27, 17, 11, 64]
abbrev dktX7_records_1 : List UInt8 := dkwX7_records_1 ++ dktX7_records_2
def dkwX7_records_0 : List UInt8 := [42, 180, 0, 65, 8, 160, 0, 75, 3, 60, 27, 17, 24, 120, 162, 0, 25, 42, 180, 0, 17, 27, 42]
abbrev dktX7_records_0 : List UInt8 := dkwX7_records_0 ++ dktX7_records_1
theorem dksX7_records_0 : cX7_records.data.toList.drop 0 = dktX7_records_0 := by decide +kernel
theorem dksX7_records_1 : cX7_records.data.toList.drop 23 = dktX7_records_1 := dk_seg dksX7_records_0 23 rfl rfl
theorem dksX7_records_2 : cX7_records.data.toList.drop 45 = dktX7_records_2 := dk_seg dksX7_records_1 22 rfl rfl
theorem dksX7_records_3 : cX7_records.data.toList.drop 67 = dktX7_records_3 := dk_seg dksX7_records_2 22 rfl rfl
theorem dksX7_records_4 : cX7_records.data.toList.drop 90 = dktX7_records_4 := dk_seg dksX7_records_3 23 rfl rfl
theorem dksX7_records_5 : cX7_records.data.toList.drop 113 = dktX7_records_5 := dk_seg dksX7_records_4 23 rfl rfl
theorem dksX7_records_6 : cX7_records.data.toList.drop 137 = dktX7_records_6 := dk_seg dksX7_records_5 24 rfl rfl
theorem dksX7_records_7 : cX7_records.data.toList.drop 159 = dktX7_records_7 := dk_seg dksX7_records_6 22 rfl rfl
theorem dX7_records_0 : decode cX7_records 0 = .ok (.aload_n 0, 1) := dk_42 (dk_at dksX7_records_0 0 rfl rfl)
theorem dX7_records_1 : decode cX7_records 1 = .ok (.getfield 65, 3) := dk_180 0 65 (dk_at dksX7_records_0 1 rfl rfl)
theorem dX7_records_4 : decode cX7_records 4 = .ok (.iconst 5, 1) := dk_8 (dk_at dksX7_records_0 4 rfl rfl)
theorem dX7_records_5 : decode cX7_records 5 = .ok (.if_icmp .ne 75, 3) := dk_160 0 75 (dk_at dksX7_records_0 5 rfl rfl)
theorem dX7_records_8 : decode cX7_records 8 = .ok (.iconst 0, 1) := dk_3 (dk_at dksX7_records_0 8 rfl rfl)
theorem dX7_records_9 : decode cX7_records 9 = .ok (.istore_n 1, 1) := dk_60 (dk_at dksX7_records_0 9 rfl rfl)
theorem dX7_records_10 : decode cX7_records 10 = .ok (.iload_n 1, 1) := dk_27 (dk_at dksX7_records_0 10 rfl rfl)
theorem dX7_records_11 : decode cX7_records 11 = .ok (.sipush 6264, 3) := dk_17 24 120 (dk_at dksX7_records_0 11 rfl rfl)
theorem dX7_records_14 : decode cX7_records 14 = .ok (.if_icmp .ge 25, 3) := dk_162 0 25 (dk_at dksX7_records_0 14 rfl rfl)
theorem dX7_records_17 : decode cX7_records 17 = .ok (.aload_n 0, 1) := dk_42 (dk_at dksX7_records_0 17 rfl rfl)
theorem dX7_records_18 : decode cX7_records 18 = .ok (.getfield 17, 3) := dk_180 0 17 (dk_at dksX7_records_0 18 rfl rfl)
theorem dX7_records_21 : decode cX7_records 21 = .ok (.iload_n 1, 1) := dk_27 (dk_at dksX7_records_0 21 rfl rfl)
theorem dX7_records_22 : decode cX7_records 22 = .ok (.aload_n 0, 1) := dk_42 (dk_at dksX7_records_0 22 rfl rfl)
theorem dX7_records_23 : decode cX7_records 23 = .ok (.getfield 17, 3) := dk_180 0 17 (dk_at dksX7_records_1 0 rfl rfl)
theorem dX7_records_26 : decode cX7_records 26 = .ok (.sipush 1566, 3) := dk_17 6 30 (dk_at dksX7_records_1 3 rfl rfl)
theorem dX7_records_29 : decode cX7_records 29 = .ok (.iload_n 1, 1) := dk_27 (dk_at dksX7_records_1 6 rfl rfl)
theorem dX7_records_30 : decode cX7_records 30 = .ok (.iadd, 1) := dk_96 (dk_at dksX7_records_1 7 rfl rfl)
theorem dX7_records_31 : decode cX7_records 31 = .ok (.iaload, 1) := dk_46 (dk_at dksX7_records_1 8 rfl rfl)
theorem dX7_records_32 : decode cX7_records 32 = .ok (.iastore, 1) := dk_79 (dk_at dksX7_records_1 9 rfl rfl)
theorem dX7_records_33 : decode cX7_records 33 = .ok (.iinc 1 1, 3) := dk_132 1 1 (dk_at dksX7_records_1 10 rfl rfl)
theorem dX7_records_36 : decode cX7_records 36 = .ok (.goto (-26), 3) := dk_167 255 230 (dk_at dksX7_records_1 13 rfl rfl)
theorem dX7_records_39 : decode cX7_records 39 = .ok (.iconst 0, 1) := dk_3 (dk_at dksX7_records_1 16 rfl rfl)
theorem dX7_records_40 : decode cX7_records 40 = .ok (.istore_n 1, 1) := dk_60 (dk_at dksX7_records_1 17 rfl rfl)
theorem dX7_records_41 : decode cX7_records 41 = .ok (.iload_n 1, 1) := dk_27 (dk_at dksX7_records_1 18 rfl rfl)
theorem dX7_records_42 : decode cX7_records 42 = .ok (.sipush 2880, 3) := dk_17 11 64 (dk_at dksX7_records_1 19 rfl rfl)
theorem dX7_records_45 : decode cX7_records 45 = .ok (.if_icmp .ge 25, 3) := dk_162 0 25 (dk_at dksX7_records_2 0 rfl rfl)
theorem dX7_records_48 : decode cX7_records 48 = .ok (.aload_n 0, 1) := dk_42 (dk_at dksX7_records_2 3 rfl rfl)
theorem dX7_records_49 : decode cX7_records 49 = .ok (.getfield 20, 3) := dk_180 0 20 (dk_at dksX7_records_2 4 rfl rfl)
theorem dX7_records_52 : decode cX7_records 52 = .ok (.iload_n 1, 1) := dk_27 (dk_at dksX7_records_2 7 rfl rfl)
theorem dX7_records_53 : decode cX7_records 53 = .ok (.aload_n 0, 1) := dk_42 (dk_at dksX7_records_2 8 rfl rfl)
theorem dX7_records_54 : decode cX7_records 54 = .ok (.getfield 20, 3) := dk_180 0 20 (dk_at dksX7_records_2 9 rfl rfl)
theorem dX7_records_57 : decode cX7_records 57 = .ok (.sipush 720, 3) := dk_17 2 208 (dk_at dksX7_records_2 12 rfl rfl)
theorem dX7_records_60 : decode cX7_records 60 = .ok (.iload_n 1, 1) := dk_27 (dk_at dksX7_records_2 15 rfl rfl)
theorem dX7_records_61 : decode cX7_records 61 = .ok (.iadd, 1) := dk_96 (dk_at dksX7_records_2 16 rfl rfl)
theorem dX7_records_62 : decode cX7_records 62 = .ok (.faload, 1) := dk_48 (dk_at dksX7_records_2 17 rfl rfl)
theorem dX7_records_63 : decode cX7_records 63 = .ok (.fastore, 1) := dk_81 (dk_at dksX7_records_2 18 rfl rfl)
theorem dX7_records_64 : decode cX7_records 64 = .ok (.iinc 1 1, 3) := dk_132 1 1 (dk_at dksX7_records_2 19 rfl rfl)
theorem dX7_records_67 : decode cX7_records 67 = .ok (.goto (-26), 3) := dk_167 255 230 (dk_at dksX7_records_3 0 rfl rfl)
theorem dX7_records_70 : decode cX7_records 70 = .ok (.aload_n 0, 1) := dk_42 (dk_at dksX7_records_3 3 rfl rfl)
theorem dX7_records_71 : decode cX7_records 71 = .ok (.dup, 1) := dk_89 (dk_at dksX7_records_3 4 rfl rfl)
theorem dX7_records_72 : decode cX7_records 72 = .ok (.getfield 65, 3) := dk_180 0 65 (dk_at dksX7_records_3 5 rfl rfl)
theorem dX7_records_75 : decode cX7_records 75 = .ok (.iconst 1, 1) := dk_4 (dk_at dksX7_records_3 8 rfl rfl)
theorem dX7_records_76 : decode cX7_records 76 = .ok (.isub, 1) := dk_100 (dk_at dksX7_records_3 9 rfl rfl)
theorem dX7_records_77 : decode cX7_records 77 = .ok (.putfield 65, 3) := dk_181 0 65 (dk_at dksX7_records_3 10 rfl rfl)
theorem dX7_records_80 : decode cX7_records 80 = .ok (.iconst 0, 1) := dk_3 (dk_at dksX7_records_3 13 rfl rfl)
theorem dX7_records_81 : decode cX7_records 81 = .ok (.istore_n 1, 1) := dk_60 (dk_at dksX7_records_3 14 rfl rfl)
theorem dX7_records_82 : decode cX7_records 82 = .ok (.iload_n 1, 1) := dk_27 (dk_at dksX7_records_3 15 rfl rfl)
theorem dX7_records_83 : decode cX7_records 83 = .ok (.sipush 1566, 3) := dk_17 6 30 (dk_at dksX7_records_3 16 rfl rfl)
theorem dX7_records_86 : decode cX7_records 86 = .ok (.if_icmp .ge 30, 3) := dk_162 0 30 (dk_at dksX7_records_3 19 rfl rfl)
theorem dX7_records_89 : decode cX7_records 89 = .ok (.aload_n 0, 1) := dk_42 (dk_at dksX7_records_3 22 rfl rfl)
theorem dX7_records_90 : decode cX7_records 90 = .ok (.getfield 17, 3) := dk_180 0 17 (dk_at dksX7_records_4 0 rfl rfl)
theorem dX7_records_93 : decode cX7_records 93 = .ok (.sipush 1566, 3) := dk_17 6 30 (dk_at dksX7_records_4 3 rfl rfl)
theorem dX7_records_96 : decode cX7_records 96 = .ok (.aload_n 0, 1) := dk_42 (dk_at dksX7_records_4 6 rfl rfl)
theorem dX7_records_97 : decode cX7_records 97 = .ok (.getfield 65, 3) := dk_180 0 65 (dk_at dksX7_records_4 7 rfl rfl)
theorem dX7_records_100 : decode cX7_records 100 = .ok (.imul, 1) := dk_104 (dk_at dksX7_records_4 10 rfl rfl)
theorem dX7_records_101 : decode cX7_records 101 = .ok (.iload_n 1, 1) := dk_27 (dk_at dksX7_records_4 11 rfl rfl)
theorem dX7_records_102 : decode cX7_records 102 = .ok (.iadd, 1) := dk_96 (dk_at dksX7_records_4 12 rfl rfl)
theorem dX7_records_103 : decode cX7_records 103 = .ok (.aload_n 0, 1) := dk_42 (dk_at dksX7_records_4 13 rfl rfl)
theorem dX7_records_104 : decode cX7_records 104 = .ok (.getfield 7, 3) := dk_180 0 7 (dk_at dksX7_records_4 14 rfl rfl)
theorem dX7_records_107 : decode cX7_records 107 = .ok (.iload_n 1, 1) := dk_27 (dk_at dksX7_records_4 17 rfl rfl)
theorem dX7_records_108 : decode cX7_records 108 = .ok (.iaload, 1) := dk_46 (dk_at dksX7_records_4 18 rfl rfl)
theorem dX7_records_109 : decode cX7_records 109 = .ok (.iastore, 1) := dk_79 (dk_at dksX7_records_4 19 rfl rfl)
theorem dX7_records_110 : decode cX7_records 110 = .ok (.iinc 1 1, 3) := dk_132 1 1 (dk_at dksX7_records_4 20 rfl rfl)
theorem dX7_records_113 : decode cX7_records 113 = .ok (.goto (-31), 3) := dk_167 255 225 (dk_at dksX7_records_5 0 rfl rfl)
theorem dX7_records_116 : decode cX7_records 116 = .ok (.iconst 0, 1) := dk_3 (dk_at dksX7_records_5 3 rfl rfl)
theorem dX7_records_117 : decode cX7_records 117 = .ok (.istore_n 1, 1) := dk_60 (dk_at dksX7_records_5 4 rfl rfl)
theorem dX7_records_118 : decode cX7_records 118 = .ok (.iload_n 1, 1) := dk_27 (dk_at dksX7_records_5 5 rfl rfl)
theorem dX7_records_119 : decode cX7_records 119 = .ok (.sipush 720, 3) := dk_17 2 208 (dk_at dksX7_records_5 6 rfl rfl)
theorem dX7_records_122 : decode cX7_records 122 = .ok (.if_icmp .ge 30, 3) := dk_162 0 30 (dk_at dksX7_records_5 9 rfl rfl)
theorem dX7_records_125 : decode cX7_records 125 = .ok (.aload_n 0, 1) := dk_42 (dk_at dksX7_records_5 12 rfl rfl)
theorem dX7_records_126 : decode cX7_records 126 = .ok (.getfield 20, 3) := dk_180 0 20 (dk_at dksX7_records_5 13 rfl rfl)
theorem dX7_records_129 : decode cX7_records 129 = .ok (.sipush 720, 3) := dk_17 2 208 (dk_at dksX7_records_5 16 rfl rfl)
theorem dX7_records_132 : decode cX7_records 132 = .ok (.aload_n 0, 1) := dk_42 (dk_at dksX7_records_5 19 rfl rfl)
theorem dX7_records_133 : decode cX7_records 133 = .ok (.getfield 65, 3) := dk_180 0 65 (dk_at dksX7_records_5 20 rfl rfl)
theorem dX7_records_136 : decode cX7_records 136 = .ok (.imul, 1) := dk_104 (dk_at dksX7_records_5 23 rfl rfl)
theorem dX7_records_137 : decode cX7_records 137 = .ok (.iload_n 1, 1) := dk_27 (dk_at dksX7_records_6 0 rfl rfl)
theorem dX7_records_138 : decode cX7_records 138 = .ok (.iadd, 1) := dk_96 (dk_at dksX7_records_6 1 rfl rfl)
theorem dX7_records_139 : decode cX7_records 139 = .ok (.aload_n 0, 1) := dk_42 (dk_at dksX7_records_6 2 rfl rfl)
theorem dX7_records_140 : decode cX7_records 140 = .ok (.getfield 13, 3) := dk_180 0 13 (dk_at dksX7_records_6 3 rfl rfl)
theorem dX7_records_143 : decode cX7_records 143 = .ok (.iload_n 1, 1) := dk_27 (dk_at dksX7_records_6 6 rfl rfl)
theorem dX7_records_144 : decode cX7_records 144 = .ok (.faload, 1) := dk_48 (dk_at dksX7_records_6 7 rfl rfl)
theorem dX7_records_145 : decode cX7_records 145 = .ok (.fastore, 1) := dk_81 (dk_at dksX7_records_6 8 rfl rfl)
theorem dX7_records_146 : decode cX7_records 146 = .ok (.iinc 1 1, 3) := dk_132 1 1 (dk_at dksX7_records_6 9 rfl rfl)
theorem dX7_records_149 : decode cX7_records 149 = .ok (.goto (-31), 3) := dk_167 255 225 (dk_at dksX7_records_6 12 rfl rfl)
theorem dX7_records_152 : decode cX7_records 152 = .ok (.aload_n 0, 1) := dk_42 (dk_at dksX7_records_6 15 rfl rfl)
theorem dX7_records_153 : decode cX7_records 153 = .ok (.dup, 1) := dk_89 (dk_at dksX7_records_6 16 rfl rfl)
theorem dX7_records_154 : decode cX7_records 154 = .ok (.getfield 65, 3) := dk_180 0 65 (dk_at dksX7_records_6 17 rfl rfl)
theorem dX7_records_157 : decode cX7_records 157 = .ok (.iconst 1, 1) := dk_4 (dk_at dksX7_records_6 20 rfl rfl)
theorem dX7_records_158 : decode cX7_records 158 = .ok (.iadd, 1) := dk_96 (dk_at dksX7_records_6 21 rfl rfl)
theorem dX7_records_159 : decode cX7_records 159 = .ok (.putfield 65, 3) := dk_181 0 65 (dk_at dksX7_records_7 0 rfl rfl)
theorem dX7_records_162 : decode cX7_records 162 = .ok (.return_, 1) := dk_177 (dk_at dksX7_records_7 3 rfl rfl)
abbrev cX7_warm : ByteArray := prog_13_method_22_code
def yX7_warm : MethodName := ⟨RX7, "warm", "(II)I"⟩
def dkwX7_warm_1 : List UInt8 := [184, 0, 36, 153, 0, 15, 42, 16, 48, 27, 96, 28, 182, 0, 81, 167, 0, 8, 42, 5, 182, 0, 78, 172]
abbrev dktX7_warm_1 : List UInt8 := dkwX7_warm_1 ++ []
def dkwX7_warm_0 : List UInt8 := [42, 3, 181, 0, 32, 27, 184, 0, 71, 154, 0, 9, 42, 4, 182, 0, 78, 172, 28, 16, 236, 16, 20]
abbrev dktX7_warm_0 : List UInt8 := dkwX7_warm_0 ++ dktX7_warm_1
theorem dksX7_warm_0 : cX7_warm.data.toList.drop 0 = dktX7_warm_0 := by decide +kernel
theorem dksX7_warm_1 : cX7_warm.data.toList.drop 23 = dktX7_warm_1 := dk_seg dksX7_warm_0 23 rfl rfl
theorem dX7_warm_0 : decode cX7_warm 0 = .ok (.aload_n 0, 1) := dk_42 (dk_at dksX7_warm_0 0 rfl rfl)
theorem dX7_warm_1 : decode cX7_warm 1 = .ok (.iconst 0, 1) := dk_3 (dk_at dksX7_warm_0 1 rfl rfl)
theorem dX7_warm_2 : decode cX7_warm 2 = .ok (.putfield 32, 3) := dk_181 0 32 (dk_at dksX7_warm_0 2 rfl rfl)
theorem dX7_warm_5 : decode cX7_warm 5 = .ok (.iload_n 1, 1) := dk_27 (dk_at dksX7_warm_0 5 rfl rfl)
theorem dX7_warm_6 : decode cX7_warm 6 = .ok (.invokestatic 71, 3) := dk_184 0 71 (dk_at dksX7_warm_0 6 rfl rfl)
theorem dX7_warm_9 : decode cX7_warm 9 = .ok (.ifCond .ne 9, 3) := dk_154 0 9 (dk_at dksX7_warm_0 9 rfl rfl)
theorem dX7_warm_12 : decode cX7_warm 12 = .ok (.aload_n 0, 1) := dk_42 (dk_at dksX7_warm_0 12 rfl rfl)
theorem dX7_warm_13 : decode cX7_warm 13 = .ok (.iconst 1, 1) := dk_4 (dk_at dksX7_warm_0 13 rfl rfl)
theorem dX7_warm_14 : decode cX7_warm 14 = .ok (.invokevirtual 78, 3) := dk_182 0 78 (dk_at dksX7_warm_0 14 rfl rfl)
theorem dX7_warm_17 : decode cX7_warm 17 = .ok (.ireturn, 1) := dk_172 (dk_at dksX7_warm_0 17 rfl rfl)
theorem dX7_warm_18 : decode cX7_warm 18 = .ok (.iload_n 2, 1) := dk_28 (dk_at dksX7_warm_0 18 rfl rfl)
theorem dX7_warm_19 : decode cX7_warm 19 = .ok (.bipush (-20), 2) := dk_16 236 (dk_at dksX7_warm_0 19 rfl rfl)
theorem dX7_warm_21 : decode cX7_warm 21 = .ok (.bipush 20, 2) := dk_16 20 (dk_at dksX7_warm_0 21 rfl rfl)
theorem dX7_warm_23 : decode cX7_warm 23 = .ok (.invokestatic 36, 3) := dk_184 0 36 (dk_at dksX7_warm_1 0 rfl rfl)
theorem dX7_warm_26 : decode cX7_warm 26 = .ok (.ifCond .eq 15, 3) := dk_153 0 15 (dk_at dksX7_warm_1 3 rfl rfl)
theorem dX7_warm_29 : decode cX7_warm 29 = .ok (.aload_n 0, 1) := dk_42 (dk_at dksX7_warm_1 6 rfl rfl)
theorem dX7_warm_30 : decode cX7_warm 30 = .ok (.bipush 48, 2) := dk_16 48 (dk_at dksX7_warm_1 7 rfl rfl)
theorem dX7_warm_32 : decode cX7_warm 32 = .ok (.iload_n 1, 1) := dk_27 (dk_at dksX7_warm_1 9 rfl rfl)
theorem dX7_warm_33 : decode cX7_warm 33 = .ok (.iadd, 1) := dk_96 (dk_at dksX7_warm_1 10 rfl rfl)
theorem dX7_warm_34 : decode cX7_warm 34 = .ok (.iload_n 2, 1) := dk_28 (dk_at dksX7_warm_1 11 rfl rfl)
theorem dX7_warm_35 : decode cX7_warm 35 = .ok (.invokevirtual 81, 3) := dk_182 0 81 (dk_at dksX7_warm_1 12 rfl rfl)
theorem dX7_warm_38 : decode cX7_warm 38 = .ok (.goto 8, 3) := dk_167 0 8 (dk_at dksX7_warm_1 15 rfl rfl)
theorem dX7_warm_41 : decode cX7_warm 41 = .ok (.aload_n 0, 1) := dk_42 (dk_at dksX7_warm_1 18 rfl rfl)
theorem dX7_warm_42 : decode cX7_warm 42 = .ok (.iconst 2, 1) := dk_5 (dk_at dksX7_warm_1 19 rfl rfl)
theorem dX7_warm_43 : decode cX7_warm 43 = .ok (.invokevirtual 78, 3) := dk_182 0 78 (dk_at dksX7_warm_1 20 rfl rfl)
theorem dX7_warm_46 : decode cX7_warm 46 = .ok (.ireturn, 1) := dk_172 (dk_at dksX7_warm_1 23 rfl rfl)
abbrev cX7_setServo : ByteArray := prog_13_method_37_code
def yX7_setServo : MethodName := ⟨RX7, "setServo", "(IZ)Z"⟩
def dkwX7_setServo_2 : List UInt8 := [167, 0, 4, 3, 172]
abbrev dktX7_setServo_2 : List UInt8 := dkwX7_setServo_2 ++ []
def dkwX7_setServo_1 : List UInt8 := [42, 16, 56, 27, 96, 28, 153, 0, 7, 4, 167, 0, 4, 3, 182, 0, 81, 4, 160, 0, 7, 4]
abbrev dktX7_setServo_1 : List UInt8 := dkwX7_setServo_1 ++ dktX7_setServo_2
def dkwX7_setServo_0 : List UInt8 := [42, 3, 181, 0, 32, 42, 27, 28, 182, 0, 107, 62, 29, 158, 0, 11, 42, 29, 182, 0, 111, 167, 0, 29]
abbrev dktX7_setServo_0 : List UInt8 := dkwX7_setServo_0 ++ dktX7_setServo_1
theorem dksX7_setServo_0 : cX7_setServo.data.toList.drop 0 = dktX7_setServo_0 := by decide +kernel
theorem dksX7_setServo_1 : cX7_setServo.data.toList.drop 24 = dktX7_setServo_1 := dk_seg dksX7_setServo_0 24 rfl rfl
theorem dksX7_setServo_2 : cX7_setServo.data.toList.drop 46 = dktX7_setServo_2 := dk_seg dksX7_setServo_1 22 rfl rfl
theorem dX7_setServo_0 : decode cX7_setServo 0 = .ok (.aload_n 0, 1) := dk_42 (dk_at dksX7_setServo_0 0 rfl rfl)
theorem dX7_setServo_1 : decode cX7_setServo 1 = .ok (.iconst 0, 1) := dk_3 (dk_at dksX7_setServo_0 1 rfl rfl)
theorem dX7_setServo_2 : decode cX7_setServo 2 = .ok (.putfield 32, 3) := dk_181 0 32 (dk_at dksX7_setServo_0 2 rfl rfl)
theorem dX7_setServo_5 : decode cX7_setServo 5 = .ok (.aload_n 0, 1) := dk_42 (dk_at dksX7_setServo_0 5 rfl rfl)
theorem dX7_setServo_6 : decode cX7_setServo 6 = .ok (.iload_n 1, 1) := dk_27 (dk_at dksX7_setServo_0 6 rfl rfl)
theorem dX7_setServo_7 : decode cX7_setServo 7 = .ok (.iload_n 2, 1) := dk_28 (dk_at dksX7_setServo_0 7 rfl rfl)
theorem dX7_setServo_8 : decode cX7_setServo 8 = .ok (.invokevirtual 107, 3) := dk_182 0 107 (dk_at dksX7_setServo_0 8 rfl rfl)
theorem dX7_setServo_11 : decode cX7_setServo 11 = .ok (.istore_n 3, 1) := dk_62 (dk_at dksX7_setServo_0 11 rfl rfl)
theorem dX7_setServo_12 : decode cX7_setServo 12 = .ok (.iload_n 3, 1) := dk_29 (dk_at dksX7_setServo_0 12 rfl rfl)
theorem dX7_setServo_13 : decode cX7_setServo 13 = .ok (.ifCond .le 11, 3) := dk_158 0 11 (dk_at dksX7_setServo_0 13 rfl rfl)
theorem dX7_setServo_16 : decode cX7_setServo 16 = .ok (.aload_n 0, 1) := dk_42 (dk_at dksX7_setServo_0 16 rfl rfl)
theorem dX7_setServo_17 : decode cX7_setServo 17 = .ok (.iload_n 3, 1) := dk_29 (dk_at dksX7_setServo_0 17 rfl rfl)
theorem dX7_setServo_18 : decode cX7_setServo 18 = .ok (.invokevirtual 111, 3) := dk_182 0 111 (dk_at dksX7_setServo_0 18 rfl rfl)
theorem dX7_setServo_21 : decode cX7_setServo 21 = .ok (.goto 29, 3) := dk_167 0 29 (dk_at dksX7_setServo_0 21 rfl rfl)
theorem dX7_setServo_24 : decode cX7_setServo 24 = .ok (.aload_n 0, 1) := dk_42 (dk_at dksX7_setServo_1 0 rfl rfl)
theorem dX7_setServo_25 : decode cX7_setServo 25 = .ok (.bipush 56, 2) := dk_16 56 (dk_at dksX7_setServo_1 1 rfl rfl)
theorem dX7_setServo_27 : decode cX7_setServo 27 = .ok (.iload_n 1, 1) := dk_27 (dk_at dksX7_setServo_1 3 rfl rfl)
theorem dX7_setServo_28 : decode cX7_setServo 28 = .ok (.iadd, 1) := dk_96 (dk_at dksX7_setServo_1 4 rfl rfl)
theorem dX7_setServo_29 : decode cX7_setServo 29 = .ok (.iload_n 2, 1) := dk_28 (dk_at dksX7_setServo_1 5 rfl rfl)
theorem dX7_setServo_30 : decode cX7_setServo 30 = .ok (.ifCond .eq 7, 3) := dk_153 0 7 (dk_at dksX7_setServo_1 6 rfl rfl)
theorem dX7_setServo_33 : decode cX7_setServo 33 = .ok (.iconst 1, 1) := dk_4 (dk_at dksX7_setServo_1 9 rfl rfl)
theorem dX7_setServo_34 : decode cX7_setServo 34 = .ok (.goto 4, 3) := dk_167 0 4 (dk_at dksX7_setServo_1 10 rfl rfl)
theorem dX7_setServo_37 : decode cX7_setServo 37 = .ok (.iconst 0, 1) := dk_3 (dk_at dksX7_setServo_1 13 rfl rfl)
theorem dX7_setServo_38 : decode cX7_setServo 38 = .ok (.invokevirtual 81, 3) := dk_182 0 81 (dk_at dksX7_setServo_1 14 rfl rfl)
theorem dX7_setServo_41 : decode cX7_setServo 41 = .ok (.iconst 1, 1) := dk_4 (dk_at dksX7_setServo_1 17 rfl rfl)
theorem dX7_setServo_42 : decode cX7_setServo 42 = .ok (.if_icmp .ne 7, 3) := dk_160 0 7 (dk_at dksX7_setServo_1 18 rfl rfl)
theorem dX7_setServo_45 : decode cX7_setServo 45 = .ok (.iconst 1, 1) := dk_4 (dk_at dksX7_setServo_1 21 rfl rfl)
theorem dX7_setServo_46 : decode cX7_setServo 46 = .ok (.goto 4, 3) := dk_167 0 4 (dk_at dksX7_setServo_2 0 rfl rfl)
theorem dX7_setServo_49 : decode cX7_setServo 49 = .ok (.iconst 0, 1) := dk_3 (dk_at dksX7_setServo_2 3 rfl rfl)
theorem dX7_setServo_50 : decode cX7_setServo 50 = .ok (.ireturn, 1) := dk_172 (dk_at dksX7_setServo_2 4 rfl rfl)
abbrev cX7_servoRefusal : ByteArray := prog_13_method_23_code
def yX7_servoRefusal : MethodName := ⟨RX7, "servoRefusal", "(IZ)I"⟩
def dkwX7_servoRefusal_1 : List UInt8 := [184, 0, 40, 96, 46, 4, 160, 0, 7, 5, 167, 0, 4, 3, 172]
abbrev dktX7_servoRefusal_1 : List UInt8 := dkwX7_servoRefusal_1 ++ []
def dkwX7_servoRefusal_0 : List UInt8 := [27, 184, 0, 71, 154, 0, 7, 4, 167, 0, 29, 28, 153, 0, 24, 42, 180, 0, 7, 16, 16, 27, 6]
abbrev dktX7_servoRefusal_0 : List UInt8 := dkwX7_servoRefusal_0 ++ dktX7_servoRefusal_1
theorem dksX7_servoRefusal_0 : cX7_servoRefusal.data.toList.drop 0 = dktX7_servoRefusal_0 := by decide +kernel
theorem dksX7_servoRefusal_1 : cX7_servoRefusal.data.toList.drop 23 = dktX7_servoRefusal_1 := dk_seg dksX7_servoRefusal_0 23 rfl rfl
theorem dX7_servoRefusal_0 : decode cX7_servoRefusal 0 = .ok (.iload_n 1, 1) := dk_27 (dk_at dksX7_servoRefusal_0 0 rfl rfl)
theorem dX7_servoRefusal_1 : decode cX7_servoRefusal 1 = .ok (.invokestatic 71, 3) := dk_184 0 71 (dk_at dksX7_servoRefusal_0 1 rfl rfl)
theorem dX7_servoRefusal_4 : decode cX7_servoRefusal 4 = .ok (.ifCond .ne 7, 3) := dk_154 0 7 (dk_at dksX7_servoRefusal_0 4 rfl rfl)
theorem dX7_servoRefusal_7 : decode cX7_servoRefusal 7 = .ok (.iconst 1, 1) := dk_4 (dk_at dksX7_servoRefusal_0 7 rfl rfl)
theorem dX7_servoRefusal_8 : decode cX7_servoRefusal 8 = .ok (.goto 29, 3) := dk_167 0 29 (dk_at dksX7_servoRefusal_0 8 rfl rfl)
theorem dX7_servoRefusal_11 : decode cX7_servoRefusal 11 = .ok (.iload_n 2, 1) := dk_28 (dk_at dksX7_servoRefusal_0 11 rfl rfl)
theorem dX7_servoRefusal_12 : decode cX7_servoRefusal 12 = .ok (.ifCond .eq 24, 3) := dk_153 0 24 (dk_at dksX7_servoRefusal_0 12 rfl rfl)
theorem dX7_servoRefusal_15 : decode cX7_servoRefusal 15 = .ok (.aload_n 0, 1) := dk_42 (dk_at dksX7_servoRefusal_0 15 rfl rfl)
theorem dX7_servoRefusal_16 : decode cX7_servoRefusal 16 = .ok (.getfield 7, 3) := dk_180 0 7 (dk_at dksX7_servoRefusal_0 16 rfl rfl)
theorem dX7_servoRefusal_19 : decode cX7_servoRefusal 19 = .ok (.bipush 16, 2) := dk_16 16 (dk_at dksX7_servoRefusal_0 19 rfl rfl)
theorem dX7_servoRefusal_21 : decode cX7_servoRefusal 21 = .ok (.iload_n 1, 1) := dk_27 (dk_at dksX7_servoRefusal_0 21 rfl rfl)
theorem dX7_servoRefusal_22 : decode cX7_servoRefusal 22 = .ok (.iconst 3, 1) := dk_6 (dk_at dksX7_servoRefusal_0 22 rfl rfl)
theorem dX7_servoRefusal_23 : decode cX7_servoRefusal 23 = .ok (.invokestatic 40, 3) := dk_184 0 40 (dk_at dksX7_servoRefusal_1 0 rfl rfl)
theorem dX7_servoRefusal_26 : decode cX7_servoRefusal 26 = .ok (.iadd, 1) := dk_96 (dk_at dksX7_servoRefusal_1 3 rfl rfl)
theorem dX7_servoRefusal_27 : decode cX7_servoRefusal 27 = .ok (.iaload, 1) := dk_46 (dk_at dksX7_servoRefusal_1 4 rfl rfl)
theorem dX7_servoRefusal_28 : decode cX7_servoRefusal 28 = .ok (.iconst 1, 1) := dk_4 (dk_at dksX7_servoRefusal_1 5 rfl rfl)
theorem dX7_servoRefusal_29 : decode cX7_servoRefusal 29 = .ok (.if_icmp .ne 7, 3) := dk_160 0 7 (dk_at dksX7_servoRefusal_1 6 rfl rfl)
theorem dX7_servoRefusal_32 : decode cX7_servoRefusal 32 = .ok (.iconst 2, 1) := dk_5 (dk_at dksX7_servoRefusal_1 9 rfl rfl)
theorem dX7_servoRefusal_33 : decode cX7_servoRefusal 33 = .ok (.goto 4, 3) := dk_167 0 4 (dk_at dksX7_servoRefusal_1 10 rfl rfl)
theorem dX7_servoRefusal_36 : decode cX7_servoRefusal 36 = .ok (.iconst 0, 1) := dk_3 (dk_at dksX7_servoRefusal_1 13 rfl rfl)
theorem dX7_servoRefusal_37 : decode cX7_servoRefusal 37 = .ok (.ireturn, 1) := dk_172 (dk_at dksX7_servoRefusal_1 14 rfl rfl)
abbrev cX7_failsSo : ByteArray := prog_13_method_4_code
def yX7_failsSo : MethodName := ⟨RX7, "failsSo", "(I)Z"⟩
def dkwX7_failsSo_0 : List UInt8 := [42, 27, 181, 0, 32, 3, 172]
abbrev dktX7_failsSo_0 : List UInt8 := dkwX7_failsSo_0 ++ []
theorem dksX7_failsSo_0 : cX7_failsSo.data.toList.drop 0 = dktX7_failsSo_0 := by decide +kernel
theorem dX7_failsSo_0 : decode cX7_failsSo 0 = .ok (.aload_n 0, 1) := dk_42 (dk_at dksX7_failsSo_0 0 rfl rfl)
theorem dX7_failsSo_1 : decode cX7_failsSo 1 = .ok (.iload_n 1, 1) := dk_27 (dk_at dksX7_failsSo_0 1 rfl rfl)
theorem dX7_failsSo_2 : decode cX7_failsSo 2 = .ok (.putfield 32, 3) := dk_181 0 32 (dk_at dksX7_failsSo_0 2 rfl rfl)
theorem dX7_failsSo_5 : decode cX7_failsSo 5 = .ok (.iconst 0, 1) := dk_3 (dk_at dksX7_failsSo_0 5 rfl rfl)
theorem dX7_failsSo_6 : decode cX7_failsSo 6 = .ok (.ireturn, 1) := dk_172 (dk_at dksX7_failsSo_0 6 rfl rfl)
abbrev cX7_makePack : ByteArray := prog_13_method_38_code
def yX7_makePack : MethodName := ⟨RX7, "makePack", "(I)I"⟩
def dkwX7_makePack_4 : List UInt8 := [180, 0, 7, 16, 89, 92, 46, 4, 96, 79, 42, 180, 0, 7, 16, 89, 46, 4, 100, 172]
abbrev dktX7_makePack_4 : List UInt8 := dkwX7_makePack_4 ++ []
def dkwX7_makePack_3 : List UInt8 := [180, 0, 7, 3, 27, 6, 184, 0, 40, 96, 46, 42, 180, 0, 7, 16, 48, 27, 96, 46, 96, 79, 42]
abbrev dktX7_makePack_3 : List UInt8 := dkwX7_makePack_3 ++ dktX7_makePack_4
def dkwX7_makePack_2 : List UInt8 := [5, 182, 0, 78, 172, 42, 182, 0, 68, 42, 180, 0, 7, 16, 90, 42, 180, 0, 7, 16, 89, 46, 96, 42]
abbrev dktX7_makePack_2 : List UInt8 := dkwX7_makePack_2 ++ dktX7_makePack_3
def dkwX7_makePack_1 : List UInt8 := [46, 16, 6, 159, 0, 20, 42, 180, 0, 7, 16, 16, 27, 6, 184, 0, 40, 96, 46, 4, 160, 0, 9, 42]
abbrev dktX7_makePack_1 : List UInt8 := dkwX7_makePack_1 ++ dktX7_makePack_2
def dkwX7_makePack_0 : List UInt8 := [42, 3, 181, 0, 32, 27, 184, 0, 71, 154, 0, 9, 42, 4, 182, 0, 78, 172, 42, 180, 0, 7, 16, 89]
abbrev dktX7_makePack_0 : List UInt8 := dkwX7_makePack_0 ++ dktX7_makePack_1
theorem dksX7_makePack_0 : cX7_makePack.data.toList.drop 0 = dktX7_makePack_0 := by decide +kernel
theorem dksX7_makePack_1 : cX7_makePack.data.toList.drop 24 = dktX7_makePack_1 := dk_seg dksX7_makePack_0 24 rfl rfl
theorem dksX7_makePack_2 : cX7_makePack.data.toList.drop 48 = dktX7_makePack_2 := dk_seg dksX7_makePack_1 24 rfl rfl
theorem dksX7_makePack_3 : cX7_makePack.data.toList.drop 72 = dktX7_makePack_3 := dk_seg dksX7_makePack_2 24 rfl rfl
theorem dksX7_makePack_4 : cX7_makePack.data.toList.drop 95 = dktX7_makePack_4 := dk_seg dksX7_makePack_3 23 rfl rfl
theorem dX7_makePack_0 : decode cX7_makePack 0 = .ok (.aload_n 0, 1) := dk_42 (dk_at dksX7_makePack_0 0 rfl rfl)
theorem dX7_makePack_1 : decode cX7_makePack 1 = .ok (.iconst 0, 1) := dk_3 (dk_at dksX7_makePack_0 1 rfl rfl)
theorem dX7_makePack_2 : decode cX7_makePack 2 = .ok (.putfield 32, 3) := dk_181 0 32 (dk_at dksX7_makePack_0 2 rfl rfl)
theorem dX7_makePack_5 : decode cX7_makePack 5 = .ok (.iload_n 1, 1) := dk_27 (dk_at dksX7_makePack_0 5 rfl rfl)
theorem dX7_makePack_6 : decode cX7_makePack 6 = .ok (.invokestatic 71, 3) := dk_184 0 71 (dk_at dksX7_makePack_0 6 rfl rfl)
theorem dX7_makePack_9 : decode cX7_makePack 9 = .ok (.ifCond .ne 9, 3) := dk_154 0 9 (dk_at dksX7_makePack_0 9 rfl rfl)
theorem dX7_makePack_12 : decode cX7_makePack 12 = .ok (.aload_n 0, 1) := dk_42 (dk_at dksX7_makePack_0 12 rfl rfl)
theorem dX7_makePack_13 : decode cX7_makePack 13 = .ok (.iconst 1, 1) := dk_4 (dk_at dksX7_makePack_0 13 rfl rfl)
theorem dX7_makePack_14 : decode cX7_makePack 14 = .ok (.invokevirtual 78, 3) := dk_182 0 78 (dk_at dksX7_makePack_0 14 rfl rfl)
theorem dX7_makePack_17 : decode cX7_makePack 17 = .ok (.ireturn, 1) := dk_172 (dk_at dksX7_makePack_0 17 rfl rfl)
theorem dX7_makePack_18 : decode cX7_makePack 18 = .ok (.aload_n 0, 1) := dk_42 (dk_at dksX7_makePack_0 18 rfl rfl)
theorem dX7_makePack_19 : decode cX7_makePack 19 = .ok (.getfield 7, 3) := dk_180 0 7 (dk_at dksX7_makePack_0 19 rfl rfl)
theorem dX7_makePack_22 : decode cX7_makePack 22 = .ok (.bipush 89, 2) := dk_16 89 (dk_at dksX7_makePack_0 22 rfl rfl)
theorem dX7_makePack_24 : decode cX7_makePack 24 = .ok (.iaload, 1) := dk_46 (dk_at dksX7_makePack_1 0 rfl rfl)
theorem dX7_makePack_25 : decode cX7_makePack 25 = .ok (.bipush 6, 2) := dk_16 6 (dk_at dksX7_makePack_1 1 rfl rfl)
theorem dX7_makePack_27 : decode cX7_makePack 27 = .ok (.if_icmp .eq 20, 3) := dk_159 0 20 (dk_at dksX7_makePack_1 3 rfl rfl)
theorem dX7_makePack_30 : decode cX7_makePack 30 = .ok (.aload_n 0, 1) := dk_42 (dk_at dksX7_makePack_1 6 rfl rfl)
theorem dX7_makePack_31 : decode cX7_makePack 31 = .ok (.getfield 7, 3) := dk_180 0 7 (dk_at dksX7_makePack_1 7 rfl rfl)
theorem dX7_makePack_34 : decode cX7_makePack 34 = .ok (.bipush 16, 2) := dk_16 16 (dk_at dksX7_makePack_1 10 rfl rfl)
theorem dX7_makePack_36 : decode cX7_makePack 36 = .ok (.iload_n 1, 1) := dk_27 (dk_at dksX7_makePack_1 12 rfl rfl)
theorem dX7_makePack_37 : decode cX7_makePack 37 = .ok (.iconst 3, 1) := dk_6 (dk_at dksX7_makePack_1 13 rfl rfl)
theorem dX7_makePack_38 : decode cX7_makePack 38 = .ok (.invokestatic 40, 3) := dk_184 0 40 (dk_at dksX7_makePack_1 14 rfl rfl)
theorem dX7_makePack_41 : decode cX7_makePack 41 = .ok (.iadd, 1) := dk_96 (dk_at dksX7_makePack_1 17 rfl rfl)
theorem dX7_makePack_42 : decode cX7_makePack 42 = .ok (.iaload, 1) := dk_46 (dk_at dksX7_makePack_1 18 rfl rfl)
theorem dX7_makePack_43 : decode cX7_makePack 43 = .ok (.iconst 1, 1) := dk_4 (dk_at dksX7_makePack_1 19 rfl rfl)
theorem dX7_makePack_44 : decode cX7_makePack 44 = .ok (.if_icmp .ne 9, 3) := dk_160 0 9 (dk_at dksX7_makePack_1 20 rfl rfl)
theorem dX7_makePack_47 : decode cX7_makePack 47 = .ok (.aload_n 0, 1) := dk_42 (dk_at dksX7_makePack_1 23 rfl rfl)
theorem dX7_makePack_48 : decode cX7_makePack 48 = .ok (.iconst 2, 1) := dk_5 (dk_at dksX7_makePack_2 0 rfl rfl)
theorem dX7_makePack_49 : decode cX7_makePack 49 = .ok (.invokevirtual 78, 3) := dk_182 0 78 (dk_at dksX7_makePack_2 1 rfl rfl)
theorem dX7_makePack_52 : decode cX7_makePack 52 = .ok (.ireturn, 1) := dk_172 (dk_at dksX7_makePack_2 4 rfl rfl)
theorem dX7_makePack_53 : decode cX7_makePack 53 = .ok (.aload_n 0, 1) := dk_42 (dk_at dksX7_makePack_2 5 rfl rfl)
theorem dX7_makePack_54 : decode cX7_makePack 54 = .ok (.invokevirtual 68, 3) := dk_182 0 68 (dk_at dksX7_makePack_2 6 rfl rfl)
theorem dX7_makePack_57 : decode cX7_makePack 57 = .ok (.aload_n 0, 1) := dk_42 (dk_at dksX7_makePack_2 9 rfl rfl)
theorem dX7_makePack_58 : decode cX7_makePack 58 = .ok (.getfield 7, 3) := dk_180 0 7 (dk_at dksX7_makePack_2 10 rfl rfl)
theorem dX7_makePack_61 : decode cX7_makePack 61 = .ok (.bipush 90, 2) := dk_16 90 (dk_at dksX7_makePack_2 13 rfl rfl)
theorem dX7_makePack_63 : decode cX7_makePack 63 = .ok (.aload_n 0, 1) := dk_42 (dk_at dksX7_makePack_2 15 rfl rfl)
theorem dX7_makePack_64 : decode cX7_makePack 64 = .ok (.getfield 7, 3) := dk_180 0 7 (dk_at dksX7_makePack_2 16 rfl rfl)
theorem dX7_makePack_67 : decode cX7_makePack 67 = .ok (.bipush 89, 2) := dk_16 89 (dk_at dksX7_makePack_2 19 rfl rfl)
theorem dX7_makePack_69 : decode cX7_makePack 69 = .ok (.iaload, 1) := dk_46 (dk_at dksX7_makePack_2 21 rfl rfl)
theorem dX7_makePack_70 : decode cX7_makePack 70 = .ok (.iadd, 1) := dk_96 (dk_at dksX7_makePack_2 22 rfl rfl)
theorem dX7_makePack_71 : decode cX7_makePack 71 = .ok (.aload_n 0, 1) := dk_42 (dk_at dksX7_makePack_2 23 rfl rfl)
theorem dX7_makePack_72 : decode cX7_makePack 72 = .ok (.getfield 7, 3) := dk_180 0 7 (dk_at dksX7_makePack_3 0 rfl rfl)
theorem dX7_makePack_75 : decode cX7_makePack 75 = .ok (.iconst 0, 1) := dk_3 (dk_at dksX7_makePack_3 3 rfl rfl)
theorem dX7_makePack_76 : decode cX7_makePack 76 = .ok (.iload_n 1, 1) := dk_27 (dk_at dksX7_makePack_3 4 rfl rfl)
theorem dX7_makePack_77 : decode cX7_makePack 77 = .ok (.iconst 3, 1) := dk_6 (dk_at dksX7_makePack_3 5 rfl rfl)
theorem dX7_makePack_78 : decode cX7_makePack 78 = .ok (.invokestatic 40, 3) := dk_184 0 40 (dk_at dksX7_makePack_3 6 rfl rfl)
theorem dX7_makePack_81 : decode cX7_makePack 81 = .ok (.iadd, 1) := dk_96 (dk_at dksX7_makePack_3 9 rfl rfl)
theorem dX7_makePack_82 : decode cX7_makePack 82 = .ok (.iaload, 1) := dk_46 (dk_at dksX7_makePack_3 10 rfl rfl)
theorem dX7_makePack_83 : decode cX7_makePack 83 = .ok (.aload_n 0, 1) := dk_42 (dk_at dksX7_makePack_3 11 rfl rfl)
theorem dX7_makePack_84 : decode cX7_makePack 84 = .ok (.getfield 7, 3) := dk_180 0 7 (dk_at dksX7_makePack_3 12 rfl rfl)
theorem dX7_makePack_87 : decode cX7_makePack 87 = .ok (.bipush 48, 2) := dk_16 48 (dk_at dksX7_makePack_3 15 rfl rfl)
theorem dX7_makePack_89 : decode cX7_makePack 89 = .ok (.iload_n 1, 1) := dk_27 (dk_at dksX7_makePack_3 17 rfl rfl)
theorem dX7_makePack_90 : decode cX7_makePack 90 = .ok (.iadd, 1) := dk_96 (dk_at dksX7_makePack_3 18 rfl rfl)
theorem dX7_makePack_91 : decode cX7_makePack 91 = .ok (.iaload, 1) := dk_46 (dk_at dksX7_makePack_3 19 rfl rfl)
theorem dX7_makePack_92 : decode cX7_makePack 92 = .ok (.iadd, 1) := dk_96 (dk_at dksX7_makePack_3 20 rfl rfl)
theorem dX7_makePack_93 : decode cX7_makePack 93 = .ok (.iastore, 1) := dk_79 (dk_at dksX7_makePack_3 21 rfl rfl)
theorem dX7_makePack_94 : decode cX7_makePack 94 = .ok (.aload_n 0, 1) := dk_42 (dk_at dksX7_makePack_3 22 rfl rfl)
theorem dX7_makePack_95 : decode cX7_makePack 95 = .ok (.getfield 7, 3) := dk_180 0 7 (dk_at dksX7_makePack_4 0 rfl rfl)
theorem dX7_makePack_98 : decode cX7_makePack 98 = .ok (.bipush 89, 2) := dk_16 89 (dk_at dksX7_makePack_4 3 rfl rfl)
theorem dX7_makePack_100 : decode cX7_makePack 100 = .ok (.dup2, 1) := dk_92 (dk_at dksX7_makePack_4 5 rfl rfl)
theorem dX7_makePack_101 : decode cX7_makePack 101 = .ok (.iaload, 1) := dk_46 (dk_at dksX7_makePack_4 6 rfl rfl)
theorem dX7_makePack_102 : decode cX7_makePack 102 = .ok (.iconst 1, 1) := dk_4 (dk_at dksX7_makePack_4 7 rfl rfl)
theorem dX7_makePack_103 : decode cX7_makePack 103 = .ok (.iadd, 1) := dk_96 (dk_at dksX7_makePack_4 8 rfl rfl)
theorem dX7_makePack_104 : decode cX7_makePack 104 = .ok (.iastore, 1) := dk_79 (dk_at dksX7_makePack_4 9 rfl rfl)
theorem dX7_makePack_105 : decode cX7_makePack 105 = .ok (.aload_n 0, 1) := dk_42 (dk_at dksX7_makePack_4 10 rfl rfl)
theorem dX7_makePack_106 : decode cX7_makePack 106 = .ok (.getfield 7, 3) := dk_180 0 7 (dk_at dksX7_makePack_4 11 rfl rfl)
theorem dX7_makePack_109 : decode cX7_makePack 109 = .ok (.bipush 89, 2) := dk_16 89 (dk_at dksX7_makePack_4 14 rfl rfl)
theorem dX7_makePack_111 : decode cX7_makePack 111 = .ok (.iaload, 1) := dk_46 (dk_at dksX7_makePack_4 16 rfl rfl)
theorem dX7_makePack_112 : decode cX7_makePack 112 = .ok (.iconst 1, 1) := dk_4 (dk_at dksX7_makePack_4 17 rfl rfl)
theorem dX7_makePack_113 : decode cX7_makePack 113 = .ok (.isub, 1) := dk_100 (dk_at dksX7_makePack_4 18 rfl rfl)
theorem dX7_makePack_114 : decode cX7_makePack 114 = .ok (.ireturn, 1) := dk_172 (dk_at dksX7_makePack_4 19 rfl rfl)
abbrev cX7_mount : ByteArray := prog_13_method_39_code
def yX7_mount : MethodName := ⟨RX7, "mount", "(II)I"⟩
def dkwX7_mount_1 : List UInt8 := [16, 60, 27, 96, 28, 182, 0, 81, 54, 4, 42, 180, 0, 7, 42, 27, 28, 182, 0, 44, 46, 172]
abbrev dktX7_mount_1 : List UInt8 := dkwX7_mount_1 ++ []
def dkwX7_mount_0 : List UInt8 := [42, 3, 181, 0, 32, 42, 27, 28, 182, 0, 114, 62, 29, 158, 0, 9, 42, 29, 182, 0, 78, 172, 42]
abbrev dktX7_mount_0 : List UInt8 := dkwX7_mount_0 ++ dktX7_mount_1
theorem dksX7_mount_0 : cX7_mount.data.toList.drop 0 = dktX7_mount_0 := by decide +kernel
theorem dksX7_mount_1 : cX7_mount.data.toList.drop 23 = dktX7_mount_1 := dk_seg dksX7_mount_0 23 rfl rfl
theorem dX7_mount_0 : decode cX7_mount 0 = .ok (.aload_n 0, 1) := dk_42 (dk_at dksX7_mount_0 0 rfl rfl)
theorem dX7_mount_1 : decode cX7_mount 1 = .ok (.iconst 0, 1) := dk_3 (dk_at dksX7_mount_0 1 rfl rfl)
theorem dX7_mount_2 : decode cX7_mount 2 = .ok (.putfield 32, 3) := dk_181 0 32 (dk_at dksX7_mount_0 2 rfl rfl)
theorem dX7_mount_5 : decode cX7_mount 5 = .ok (.aload_n 0, 1) := dk_42 (dk_at dksX7_mount_0 5 rfl rfl)
theorem dX7_mount_6 : decode cX7_mount 6 = .ok (.iload_n 1, 1) := dk_27 (dk_at dksX7_mount_0 6 rfl rfl)
theorem dX7_mount_7 : decode cX7_mount 7 = .ok (.iload_n 2, 1) := dk_28 (dk_at dksX7_mount_0 7 rfl rfl)
theorem dX7_mount_8 : decode cX7_mount 8 = .ok (.invokevirtual 114, 3) := dk_182 0 114 (dk_at dksX7_mount_0 8 rfl rfl)
theorem dX7_mount_11 : decode cX7_mount 11 = .ok (.istore_n 3, 1) := dk_62 (dk_at dksX7_mount_0 11 rfl rfl)
theorem dX7_mount_12 : decode cX7_mount 12 = .ok (.iload_n 3, 1) := dk_29 (dk_at dksX7_mount_0 12 rfl rfl)
theorem dX7_mount_13 : decode cX7_mount 13 = .ok (.ifCond .le 9, 3) := dk_158 0 9 (dk_at dksX7_mount_0 13 rfl rfl)
theorem dX7_mount_16 : decode cX7_mount 16 = .ok (.aload_n 0, 1) := dk_42 (dk_at dksX7_mount_0 16 rfl rfl)
theorem dX7_mount_17 : decode cX7_mount 17 = .ok (.iload_n 3, 1) := dk_29 (dk_at dksX7_mount_0 17 rfl rfl)
theorem dX7_mount_18 : decode cX7_mount 18 = .ok (.invokevirtual 78, 3) := dk_182 0 78 (dk_at dksX7_mount_0 18 rfl rfl)
theorem dX7_mount_21 : decode cX7_mount 21 = .ok (.ireturn, 1) := dk_172 (dk_at dksX7_mount_0 21 rfl rfl)
theorem dX7_mount_22 : decode cX7_mount 22 = .ok (.aload_n 0, 1) := dk_42 (dk_at dksX7_mount_0 22 rfl rfl)
theorem dX7_mount_23 : decode cX7_mount 23 = .ok (.bipush 60, 2) := dk_16 60 (dk_at dksX7_mount_1 0 rfl rfl)
theorem dX7_mount_25 : decode cX7_mount 25 = .ok (.iload_n 1, 1) := dk_27 (dk_at dksX7_mount_1 2 rfl rfl)
theorem dX7_mount_26 : decode cX7_mount 26 = .ok (.iadd, 1) := dk_96 (dk_at dksX7_mount_1 3 rfl rfl)
theorem dX7_mount_27 : decode cX7_mount 27 = .ok (.iload_n 2, 1) := dk_28 (dk_at dksX7_mount_1 4 rfl rfl)
theorem dX7_mount_28 : decode cX7_mount 28 = .ok (.invokevirtual 81, 3) := dk_182 0 81 (dk_at dksX7_mount_1 5 rfl rfl)
theorem dX7_mount_31 : decode cX7_mount 31 = .ok (.istore 4, 2) := dk_54 4 (dk_at dksX7_mount_1 8 rfl rfl)
theorem dX7_mount_33 : decode cX7_mount 33 = .ok (.aload_n 0, 1) := dk_42 (dk_at dksX7_mount_1 10 rfl rfl)
theorem dX7_mount_34 : decode cX7_mount 34 = .ok (.getfield 7, 3) := dk_180 0 7 (dk_at dksX7_mount_1 11 rfl rfl)
theorem dX7_mount_37 : decode cX7_mount 37 = .ok (.aload_n 0, 1) := dk_42 (dk_at dksX7_mount_1 14 rfl rfl)
theorem dX7_mount_38 : decode cX7_mount 38 = .ok (.iload_n 1, 1) := dk_27 (dk_at dksX7_mount_1 15 rfl rfl)
theorem dX7_mount_39 : decode cX7_mount 39 = .ok (.iload_n 2, 1) := dk_28 (dk_at dksX7_mount_1 16 rfl rfl)
theorem dX7_mount_40 : decode cX7_mount 40 = .ok (.invokevirtual 44, 3) := dk_182 0 44 (dk_at dksX7_mount_1 17 rfl rfl)
theorem dX7_mount_43 : decode cX7_mount 43 = .ok (.iaload, 1) := dk_46 (dk_at dksX7_mount_1 20 rfl rfl)
theorem dX7_mount_44 : decode cX7_mount 44 = .ok (.ireturn, 1) := dk_172 (dk_at dksX7_mount_1 21 rfl rfl)
abbrev cX7_mountRefusal : ByteArray := prog_13_method_24_code
def yX7_mountRefusal : MethodName := ⟨RX7, "mountRefusal", "(II)I"⟩
def dkwX7_mountRefusal_1 : List UInt8 := [96, 46, 2, 160, 0, 12, 42, 28, 182, 0, 87, 2, 159, 0, 7, 5, 167, 0, 4, 3, 172]
abbrev dktX7_mountRefusal_1 : List UInt8 := dkwX7_mountRefusal_1 ++ []
def dkwX7_mountRefusal_0 : List UInt8 := [27, 184, 0, 71, 153, 0, 11, 42, 28, 182, 0, 84, 154, 0, 5, 4, 172, 42, 180, 0, 7, 16, 60, 27]
abbrev dktX7_mountRefusal_0 : List UInt8 := dkwX7_mountRefusal_0 ++ dktX7_mountRefusal_1
theorem dksX7_mountRefusal_0 : cX7_mountRefusal.data.toList.drop 0 = dktX7_mountRefusal_0 := by decide +kernel
theorem dksX7_mountRefusal_1 : cX7_mountRefusal.data.toList.drop 24 = dktX7_mountRefusal_1 := dk_seg dksX7_mountRefusal_0 24 rfl rfl
theorem dX7_mountRefusal_0 : decode cX7_mountRefusal 0 = .ok (.iload_n 1, 1) := dk_27 (dk_at dksX7_mountRefusal_0 0 rfl rfl)
theorem dX7_mountRefusal_1 : decode cX7_mountRefusal 1 = .ok (.invokestatic 71, 3) := dk_184 0 71 (dk_at dksX7_mountRefusal_0 1 rfl rfl)
theorem dX7_mountRefusal_4 : decode cX7_mountRefusal 4 = .ok (.ifCond .eq 11, 3) := dk_153 0 11 (dk_at dksX7_mountRefusal_0 4 rfl rfl)
theorem dX7_mountRefusal_7 : decode cX7_mountRefusal 7 = .ok (.aload_n 0, 1) := dk_42 (dk_at dksX7_mountRefusal_0 7 rfl rfl)
theorem dX7_mountRefusal_8 : decode cX7_mountRefusal 8 = .ok (.iload_n 2, 1) := dk_28 (dk_at dksX7_mountRefusal_0 8 rfl rfl)
theorem dX7_mountRefusal_9 : decode cX7_mountRefusal 9 = .ok (.invokevirtual 84, 3) := dk_182 0 84 (dk_at dksX7_mountRefusal_0 9 rfl rfl)
theorem dX7_mountRefusal_12 : decode cX7_mountRefusal 12 = .ok (.ifCond .ne 5, 3) := dk_154 0 5 (dk_at dksX7_mountRefusal_0 12 rfl rfl)
theorem dX7_mountRefusal_15 : decode cX7_mountRefusal 15 = .ok (.iconst 1, 1) := dk_4 (dk_at dksX7_mountRefusal_0 15 rfl rfl)
theorem dX7_mountRefusal_16 : decode cX7_mountRefusal 16 = .ok (.ireturn, 1) := dk_172 (dk_at dksX7_mountRefusal_0 16 rfl rfl)
theorem dX7_mountRefusal_17 : decode cX7_mountRefusal 17 = .ok (.aload_n 0, 1) := dk_42 (dk_at dksX7_mountRefusal_0 17 rfl rfl)
theorem dX7_mountRefusal_18 : decode cX7_mountRefusal 18 = .ok (.getfield 7, 3) := dk_180 0 7 (dk_at dksX7_mountRefusal_0 18 rfl rfl)
theorem dX7_mountRefusal_21 : decode cX7_mountRefusal 21 = .ok (.bipush 60, 2) := dk_16 60 (dk_at dksX7_mountRefusal_0 21 rfl rfl)
theorem dX7_mountRefusal_23 : decode cX7_mountRefusal 23 = .ok (.iload_n 1, 1) := dk_27 (dk_at dksX7_mountRefusal_0 23 rfl rfl)
theorem dX7_mountRefusal_24 : decode cX7_mountRefusal 24 = .ok (.iadd, 1) := dk_96 (dk_at dksX7_mountRefusal_1 0 rfl rfl)
theorem dX7_mountRefusal_25 : decode cX7_mountRefusal 25 = .ok (.iaload, 1) := dk_46 (dk_at dksX7_mountRefusal_1 1 rfl rfl)
theorem dX7_mountRefusal_26 : decode cX7_mountRefusal 26 = .ok (.iconst (-1), 1) := dk_2 (dk_at dksX7_mountRefusal_1 2 rfl rfl)
theorem dX7_mountRefusal_27 : decode cX7_mountRefusal 27 = .ok (.if_icmp .ne 12, 3) := dk_160 0 12 (dk_at dksX7_mountRefusal_1 3 rfl rfl)
theorem dX7_mountRefusal_30 : decode cX7_mountRefusal 30 = .ok (.aload_n 0, 1) := dk_42 (dk_at dksX7_mountRefusal_1 6 rfl rfl)
theorem dX7_mountRefusal_31 : decode cX7_mountRefusal 31 = .ok (.iload_n 2, 1) := dk_28 (dk_at dksX7_mountRefusal_1 7 rfl rfl)
theorem dX7_mountRefusal_32 : decode cX7_mountRefusal 32 = .ok (.invokevirtual 87, 3) := dk_182 0 87 (dk_at dksX7_mountRefusal_1 8 rfl rfl)
theorem dX7_mountRefusal_35 : decode cX7_mountRefusal 35 = .ok (.iconst (-1), 1) := dk_2 (dk_at dksX7_mountRefusal_1 11 rfl rfl)
theorem dX7_mountRefusal_36 : decode cX7_mountRefusal 36 = .ok (.if_icmp .eq 7, 3) := dk_159 0 7 (dk_at dksX7_mountRefusal_1 12 rfl rfl)
theorem dX7_mountRefusal_39 : decode cX7_mountRefusal 39 = .ok (.iconst 2, 1) := dk_5 (dk_at dksX7_mountRefusal_1 15 rfl rfl)
theorem dX7_mountRefusal_40 : decode cX7_mountRefusal 40 = .ok (.goto 4, 3) := dk_167 0 4 (dk_at dksX7_mountRefusal_1 16 rfl rfl)
theorem dX7_mountRefusal_43 : decode cX7_mountRefusal 43 = .ok (.iconst 0, 1) := dk_3 (dk_at dksX7_mountRefusal_1 19 rfl rfl)
theorem dX7_mountRefusal_44 : decode cX7_mountRefusal 44 = .ok (.ireturn, 1) := dk_172 (dk_at dksX7_mountRefusal_1 20 rfl rfl)
abbrev cX7_isPack : ByteArray := prog_13_method_10_code
def yX7_isPack : MethodName := ⟨RX7, "isPack", "(I)Z"⟩
def dkwX7_isPack_0 : List UInt8 := [27, 3, 42, 180, 0, 7, 16, 89, 46, 4, 100, 184, 0, 36, 172]
abbrev dktX7_isPack_0 : List UInt8 := dkwX7_isPack_0 ++ []
theorem dksX7_isPack_0 : cX7_isPack.data.toList.drop 0 = dktX7_isPack_0 := by decide +kernel
theorem dX7_isPack_0 : decode cX7_isPack 0 = .ok (.iload_n 1, 1) := dk_27 (dk_at dksX7_isPack_0 0 rfl rfl)
theorem dX7_isPack_1 : decode cX7_isPack 1 = .ok (.iconst 0, 1) := dk_3 (dk_at dksX7_isPack_0 1 rfl rfl)
theorem dX7_isPack_2 : decode cX7_isPack 2 = .ok (.aload_n 0, 1) := dk_42 (dk_at dksX7_isPack_0 2 rfl rfl)
theorem dX7_isPack_3 : decode cX7_isPack 3 = .ok (.getfield 7, 3) := dk_180 0 7 (dk_at dksX7_isPack_0 3 rfl rfl)
theorem dX7_isPack_6 : decode cX7_isPack 6 = .ok (.bipush 89, 2) := dk_16 89 (dk_at dksX7_isPack_0 6 rfl rfl)
theorem dX7_isPack_8 : decode cX7_isPack 8 = .ok (.iaload, 1) := dk_46 (dk_at dksX7_isPack_0 8 rfl rfl)
theorem dX7_isPack_9 : decode cX7_isPack 9 = .ok (.iconst 1, 1) := dk_4 (dk_at dksX7_isPack_0 9 rfl rfl)
theorem dX7_isPack_10 : decode cX7_isPack 10 = .ok (.isub, 1) := dk_100 (dk_at dksX7_isPack_0 10 rfl rfl)
theorem dX7_isPack_11 : decode cX7_isPack 11 = .ok (.invokestatic 36, 3) := dk_184 0 36 (dk_at dksX7_isPack_0 11 rfl rfl)
theorem dX7_isPack_14 : decode cX7_isPack 14 = .ok (.ireturn, 1) := dk_172 (dk_at dksX7_isPack_0 14 rfl rfl)
abbrev cX7_driveWith : ByteArray := prog_13_method_14_code
def yX7_driveWith : MethodName := ⟨RX7, "driveWith", "(I)I"⟩
def dkwX7_driveWith_1 : List UInt8 := [132, 2, 1, 167, 255, 233, 2, 172]
abbrev dktX7_driveWith_1 : List UInt8 := dkwX7_driveWith_1 ++ []
def dkwX7_driveWith_0 : List UInt8 := [3, 61, 28, 7, 162, 0, 24, 42, 180, 0, 7, 16, 60, 28, 96, 46, 27, 160, 0, 5, 28, 172]
abbrev dktX7_driveWith_0 : List UInt8 := dkwX7_driveWith_0 ++ dktX7_driveWith_1
theorem dksX7_driveWith_0 : cX7_driveWith.data.toList.drop 0 = dktX7_driveWith_0 := by decide +kernel
theorem dksX7_driveWith_1 : cX7_driveWith.data.toList.drop 22 = dktX7_driveWith_1 := dk_seg dksX7_driveWith_0 22 rfl rfl
theorem dX7_driveWith_0 : decode cX7_driveWith 0 = .ok (.iconst 0, 1) := dk_3 (dk_at dksX7_driveWith_0 0 rfl rfl)
theorem dX7_driveWith_1 : decode cX7_driveWith 1 = .ok (.istore_n 2, 1) := dk_61 (dk_at dksX7_driveWith_0 1 rfl rfl)
theorem dX7_driveWith_2 : decode cX7_driveWith 2 = .ok (.iload_n 2, 1) := dk_28 (dk_at dksX7_driveWith_0 2 rfl rfl)
theorem dX7_driveWith_3 : decode cX7_driveWith 3 = .ok (.iconst 4, 1) := dk_7 (dk_at dksX7_driveWith_0 3 rfl rfl)
theorem dX7_driveWith_4 : decode cX7_driveWith 4 = .ok (.if_icmp .ge 24, 3) := dk_162 0 24 (dk_at dksX7_driveWith_0 4 rfl rfl)
theorem dX7_driveWith_7 : decode cX7_driveWith 7 = .ok (.aload_n 0, 1) := dk_42 (dk_at dksX7_driveWith_0 7 rfl rfl)
theorem dX7_driveWith_8 : decode cX7_driveWith 8 = .ok (.getfield 7, 3) := dk_180 0 7 (dk_at dksX7_driveWith_0 8 rfl rfl)
theorem dX7_driveWith_11 : decode cX7_driveWith 11 = .ok (.bipush 60, 2) := dk_16 60 (dk_at dksX7_driveWith_0 11 rfl rfl)
theorem dX7_driveWith_13 : decode cX7_driveWith 13 = .ok (.iload_n 2, 1) := dk_28 (dk_at dksX7_driveWith_0 13 rfl rfl)
theorem dX7_driveWith_14 : decode cX7_driveWith 14 = .ok (.iadd, 1) := dk_96 (dk_at dksX7_driveWith_0 14 rfl rfl)
theorem dX7_driveWith_15 : decode cX7_driveWith 15 = .ok (.iaload, 1) := dk_46 (dk_at dksX7_driveWith_0 15 rfl rfl)
theorem dX7_driveWith_16 : decode cX7_driveWith 16 = .ok (.iload_n 1, 1) := dk_27 (dk_at dksX7_driveWith_0 16 rfl rfl)
theorem dX7_driveWith_17 : decode cX7_driveWith 17 = .ok (.if_icmp .ne 5, 3) := dk_160 0 5 (dk_at dksX7_driveWith_0 17 rfl rfl)
theorem dX7_driveWith_20 : decode cX7_driveWith 20 = .ok (.iload_n 2, 1) := dk_28 (dk_at dksX7_driveWith_0 20 rfl rfl)
theorem dX7_driveWith_21 : decode cX7_driveWith 21 = .ok (.ireturn, 1) := dk_172 (dk_at dksX7_driveWith_0 21 rfl rfl)
theorem dX7_driveWith_22 : decode cX7_driveWith 22 = .ok (.iinc 2 1, 3) := dk_132 2 1 (dk_at dksX7_driveWith_1 0 rfl rfl)
theorem dX7_driveWith_25 : decode cX7_driveWith 25 = .ok (.goto (-23), 3) := dk_167 255 233 (dk_at dksX7_driveWith_1 3 rfl rfl)
theorem dX7_driveWith_28 : decode cX7_driveWith 28 = .ok (.iconst (-1), 1) := dk_2 (dk_at dksX7_driveWith_1 6 rfl rfl)
theorem dX7_driveWith_29 : decode cX7_driveWith 29 = .ok (.ireturn, 1) := dk_172 (dk_at dksX7_driveWith_1 7 rfl rfl)
abbrev cX7_learnedAt : ByteArray := prog_13_method_13_code
def yX7_learnedAt : MethodName := ⟨RX7, "learnedAt", "(II)I"⟩
def dkwX7_learnedAt_0 : List UInt8 := [16, 64, 16, 6, 27, 104, 96, 28, 96, 172]
abbrev dktX7_learnedAt_0 : List UInt8 := dkwX7_learnedAt_0 ++ []
theorem dksX7_learnedAt_0 : cX7_learnedAt.data.toList.drop 0 = dktX7_learnedAt_0 := by decide +kernel
theorem dX7_learnedAt_0 : decode cX7_learnedAt 0 = .ok (.bipush 64, 2) := dk_16 64 (dk_at dksX7_learnedAt_0 0 rfl rfl)
theorem dX7_learnedAt_2 : decode cX7_learnedAt 2 = .ok (.bipush 6, 2) := dk_16 6 (dk_at dksX7_learnedAt_0 2 rfl rfl)
theorem dX7_learnedAt_4 : decode cX7_learnedAt 4 = .ok (.iload_n 1, 1) := dk_27 (dk_at dksX7_learnedAt_0 4 rfl rfl)
theorem dX7_learnedAt_5 : decode cX7_learnedAt 5 = .ok (.imul, 1) := dk_104 (dk_at dksX7_learnedAt_0 5 rfl rfl)
theorem dX7_learnedAt_6 : decode cX7_learnedAt 6 = .ok (.iadd, 1) := dk_96 (dk_at dksX7_learnedAt_0 6 rfl rfl)
theorem dX7_learnedAt_7 : decode cX7_learnedAt 7 = .ok (.iload_n 2, 1) := dk_28 (dk_at dksX7_learnedAt_0 7 rfl rfl)
theorem dX7_learnedAt_8 : decode cX7_learnedAt 8 = .ok (.iadd, 1) := dk_96 (dk_at dksX7_learnedAt_0 8 rfl rfl)
theorem dX7_learnedAt_9 : decode cX7_learnedAt 9 = .ok (.ireturn, 1) := dk_172 (dk_at dksX7_learnedAt_0 9 rfl rfl)
abbrev cX7_unmount : ByteArray := prog_13_method_40_code
def yX7_unmount : MethodName := ⟨RX7, "unmount", "(I)I"⟩
def dkwX7_unmount_1 : List UInt8 := [182, 0, 68, 42, 27, 182, 0, 117, 172]
abbrev dktX7_unmount_1 : List UInt8 := dkwX7_unmount_1 ++ []
def dkwX7_unmount_0 : List UInt8 := [42, 3, 181, 0, 32, 42, 27, 182, 0, 93, 61, 28, 158, 0, 9, 42, 28, 182, 0, 78, 172, 42]
abbrev dktX7_unmount_0 : List UInt8 := dkwX7_unmount_0 ++ dktX7_unmount_1
theorem dksX7_unmount_0 : cX7_unmount.data.toList.drop 0 = dktX7_unmount_0 := by decide +kernel
theorem dksX7_unmount_1 : cX7_unmount.data.toList.drop 22 = dktX7_unmount_1 := dk_seg dksX7_unmount_0 22 rfl rfl
theorem dX7_unmount_0 : decode cX7_unmount 0 = .ok (.aload_n 0, 1) := dk_42 (dk_at dksX7_unmount_0 0 rfl rfl)
theorem dX7_unmount_1 : decode cX7_unmount 1 = .ok (.iconst 0, 1) := dk_3 (dk_at dksX7_unmount_0 1 rfl rfl)
theorem dX7_unmount_2 : decode cX7_unmount 2 = .ok (.putfield 32, 3) := dk_181 0 32 (dk_at dksX7_unmount_0 2 rfl rfl)
theorem dX7_unmount_5 : decode cX7_unmount 5 = .ok (.aload_n 0, 1) := dk_42 (dk_at dksX7_unmount_0 5 rfl rfl)
theorem dX7_unmount_6 : decode cX7_unmount 6 = .ok (.iload_n 1, 1) := dk_27 (dk_at dksX7_unmount_0 6 rfl rfl)
theorem dX7_unmount_7 : decode cX7_unmount 7 = .ok (.invokevirtual 93, 3) := dk_182 0 93 (dk_at dksX7_unmount_0 7 rfl rfl)
theorem dX7_unmount_10 : decode cX7_unmount 10 = .ok (.istore_n 2, 1) := dk_61 (dk_at dksX7_unmount_0 10 rfl rfl)
theorem dX7_unmount_11 : decode cX7_unmount 11 = .ok (.iload_n 2, 1) := dk_28 (dk_at dksX7_unmount_0 11 rfl rfl)
theorem dX7_unmount_12 : decode cX7_unmount 12 = .ok (.ifCond .le 9, 3) := dk_158 0 9 (dk_at dksX7_unmount_0 12 rfl rfl)
theorem dX7_unmount_15 : decode cX7_unmount 15 = .ok (.aload_n 0, 1) := dk_42 (dk_at dksX7_unmount_0 15 rfl rfl)
theorem dX7_unmount_16 : decode cX7_unmount 16 = .ok (.iload_n 2, 1) := dk_28 (dk_at dksX7_unmount_0 16 rfl rfl)
theorem dX7_unmount_17 : decode cX7_unmount 17 = .ok (.invokevirtual 78, 3) := dk_182 0 78 (dk_at dksX7_unmount_0 17 rfl rfl)
theorem dX7_unmount_20 : decode cX7_unmount 20 = .ok (.ireturn, 1) := dk_172 (dk_at dksX7_unmount_0 20 rfl rfl)
theorem dX7_unmount_21 : decode cX7_unmount 21 = .ok (.aload_n 0, 1) := dk_42 (dk_at dksX7_unmount_0 21 rfl rfl)
theorem dX7_unmount_22 : decode cX7_unmount 22 = .ok (.invokevirtual 68, 3) := dk_182 0 68 (dk_at dksX7_unmount_1 0 rfl rfl)
theorem dX7_unmount_25 : decode cX7_unmount 25 = .ok (.aload_n 0, 1) := dk_42 (dk_at dksX7_unmount_1 3 rfl rfl)
theorem dX7_unmount_26 : decode cX7_unmount 26 = .ok (.iload_n 1, 1) := dk_27 (dk_at dksX7_unmount_1 4 rfl rfl)
theorem dX7_unmount_27 : decode cX7_unmount 27 = .ok (.invokevirtual 117, 3) := dk_182 0 117 (dk_at dksX7_unmount_1 5 rfl rfl)
theorem dX7_unmount_30 : decode cX7_unmount 30 = .ok (.ireturn, 1) := dk_172 (dk_at dksX7_unmount_1 8 rfl rfl)
abbrev cX7_packRefusal : ByteArray := prog_13_method_25_code
def yX7_packRefusal : MethodName := ⟨RX7, "packRefusal", "(I)I"⟩
def dkwX7_packRefusal_1 : List UInt8 := [5, 167, 0, 4, 3, 172]
abbrev dktX7_packRefusal_1 : List UInt8 := dkwX7_packRefusal_1 ++ []
def dkwX7_packRefusal_0 : List UInt8 := [27, 184, 0, 71, 154, 0, 7, 4, 167, 0, 21, 42, 180, 0, 7, 16, 60, 27, 96, 46, 2, 160, 0, 7]
abbrev dktX7_packRefusal_0 : List UInt8 := dkwX7_packRefusal_0 ++ dktX7_packRefusal_1
theorem dksX7_packRefusal_0 : cX7_packRefusal.data.toList.drop 0 = dktX7_packRefusal_0 := by decide +kernel
theorem dksX7_packRefusal_1 : cX7_packRefusal.data.toList.drop 24 = dktX7_packRefusal_1 := dk_seg dksX7_packRefusal_0 24 rfl rfl
theorem dX7_packRefusal_0 : decode cX7_packRefusal 0 = .ok (.iload_n 1, 1) := dk_27 (dk_at dksX7_packRefusal_0 0 rfl rfl)
theorem dX7_packRefusal_1 : decode cX7_packRefusal 1 = .ok (.invokestatic 71, 3) := dk_184 0 71 (dk_at dksX7_packRefusal_0 1 rfl rfl)
theorem dX7_packRefusal_4 : decode cX7_packRefusal 4 = .ok (.ifCond .ne 7, 3) := dk_154 0 7 (dk_at dksX7_packRefusal_0 4 rfl rfl)
theorem dX7_packRefusal_7 : decode cX7_packRefusal 7 = .ok (.iconst 1, 1) := dk_4 (dk_at dksX7_packRefusal_0 7 rfl rfl)
theorem dX7_packRefusal_8 : decode cX7_packRefusal 8 = .ok (.goto 21, 3) := dk_167 0 21 (dk_at dksX7_packRefusal_0 8 rfl rfl)
theorem dX7_packRefusal_11 : decode cX7_packRefusal 11 = .ok (.aload_n 0, 1) := dk_42 (dk_at dksX7_packRefusal_0 11 rfl rfl)
theorem dX7_packRefusal_12 : decode cX7_packRefusal 12 = .ok (.getfield 7, 3) := dk_180 0 7 (dk_at dksX7_packRefusal_0 12 rfl rfl)
theorem dX7_packRefusal_15 : decode cX7_packRefusal 15 = .ok (.bipush 60, 2) := dk_16 60 (dk_at dksX7_packRefusal_0 15 rfl rfl)
theorem dX7_packRefusal_17 : decode cX7_packRefusal 17 = .ok (.iload_n 1, 1) := dk_27 (dk_at dksX7_packRefusal_0 17 rfl rfl)
theorem dX7_packRefusal_18 : decode cX7_packRefusal 18 = .ok (.iadd, 1) := dk_96 (dk_at dksX7_packRefusal_0 18 rfl rfl)
theorem dX7_packRefusal_19 : decode cX7_packRefusal 19 = .ok (.iaload, 1) := dk_46 (dk_at dksX7_packRefusal_0 19 rfl rfl)
theorem dX7_packRefusal_20 : decode cX7_packRefusal 20 = .ok (.iconst (-1), 1) := dk_2 (dk_at dksX7_packRefusal_0 20 rfl rfl)
theorem dX7_packRefusal_21 : decode cX7_packRefusal 21 = .ok (.if_icmp .ne 7, 3) := dk_160 0 7 (dk_at dksX7_packRefusal_0 21 rfl rfl)
theorem dX7_packRefusal_24 : decode cX7_packRefusal 24 = .ok (.iconst 2, 1) := dk_5 (dk_at dksX7_packRefusal_1 0 rfl rfl)
theorem dX7_packRefusal_25 : decode cX7_packRefusal 25 = .ok (.goto 4, 3) := dk_167 0 4 (dk_at dksX7_packRefusal_1 1 rfl rfl)
theorem dX7_packRefusal_28 : decode cX7_packRefusal 28 = .ok (.iconst 0, 1) := dk_3 (dk_at dksX7_packRefusal_1 4 rfl rfl)
theorem dX7_packRefusal_29 : decode cX7_packRefusal 29 = .ok (.ireturn, 1) := dk_172 (dk_at dksX7_packRefusal_1 5 rfl rfl)
abbrev cX7_unmounts : ByteArray := prog_13_method_30_code
def yX7_unmounts : MethodName := ⟨RX7, "unmounts", "(I)I"⟩
def dkwX7_unmounts_1 : List UInt8 := [16, 52, 27, 96, 3, 79, 28, 172]
abbrev dktX7_unmounts_1 : List UInt8 := dkwX7_unmounts_1 ++ []
def dkwX7_unmounts_0 : List UInt8 := [42, 180, 0, 7, 16, 60, 27, 96, 46, 61, 42, 180, 0, 7, 16, 60, 27, 96, 2, 79, 42, 180, 0, 7]
abbrev dktX7_unmounts_0 : List UInt8 := dkwX7_unmounts_0 ++ dktX7_unmounts_1
theorem dksX7_unmounts_0 : cX7_unmounts.data.toList.drop 0 = dktX7_unmounts_0 := by decide +kernel
theorem dksX7_unmounts_1 : cX7_unmounts.data.toList.drop 24 = dktX7_unmounts_1 := dk_seg dksX7_unmounts_0 24 rfl rfl
theorem dX7_unmounts_0 : decode cX7_unmounts 0 = .ok (.aload_n 0, 1) := dk_42 (dk_at dksX7_unmounts_0 0 rfl rfl)
theorem dX7_unmounts_1 : decode cX7_unmounts 1 = .ok (.getfield 7, 3) := dk_180 0 7 (dk_at dksX7_unmounts_0 1 rfl rfl)
theorem dX7_unmounts_4 : decode cX7_unmounts 4 = .ok (.bipush 60, 2) := dk_16 60 (dk_at dksX7_unmounts_0 4 rfl rfl)
theorem dX7_unmounts_6 : decode cX7_unmounts 6 = .ok (.iload_n 1, 1) := dk_27 (dk_at dksX7_unmounts_0 6 rfl rfl)
theorem dX7_unmounts_7 : decode cX7_unmounts 7 = .ok (.iadd, 1) := dk_96 (dk_at dksX7_unmounts_0 7 rfl rfl)
theorem dX7_unmounts_8 : decode cX7_unmounts 8 = .ok (.iaload, 1) := dk_46 (dk_at dksX7_unmounts_0 8 rfl rfl)
theorem dX7_unmounts_9 : decode cX7_unmounts 9 = .ok (.istore_n 2, 1) := dk_61 (dk_at dksX7_unmounts_0 9 rfl rfl)
theorem dX7_unmounts_10 : decode cX7_unmounts 10 = .ok (.aload_n 0, 1) := dk_42 (dk_at dksX7_unmounts_0 10 rfl rfl)
theorem dX7_unmounts_11 : decode cX7_unmounts 11 = .ok (.getfield 7, 3) := dk_180 0 7 (dk_at dksX7_unmounts_0 11 rfl rfl)
theorem dX7_unmounts_14 : decode cX7_unmounts 14 = .ok (.bipush 60, 2) := dk_16 60 (dk_at dksX7_unmounts_0 14 rfl rfl)
theorem dX7_unmounts_16 : decode cX7_unmounts 16 = .ok (.iload_n 1, 1) := dk_27 (dk_at dksX7_unmounts_0 16 rfl rfl)
theorem dX7_unmounts_17 : decode cX7_unmounts 17 = .ok (.iadd, 1) := dk_96 (dk_at dksX7_unmounts_0 17 rfl rfl)
theorem dX7_unmounts_18 : decode cX7_unmounts 18 = .ok (.iconst (-1), 1) := dk_2 (dk_at dksX7_unmounts_0 18 rfl rfl)
theorem dX7_unmounts_19 : decode cX7_unmounts 19 = .ok (.iastore, 1) := dk_79 (dk_at dksX7_unmounts_0 19 rfl rfl)
theorem dX7_unmounts_20 : decode cX7_unmounts 20 = .ok (.aload_n 0, 1) := dk_42 (dk_at dksX7_unmounts_0 20 rfl rfl)
theorem dX7_unmounts_21 : decode cX7_unmounts 21 = .ok (.getfield 7, 3) := dk_180 0 7 (dk_at dksX7_unmounts_0 21 rfl rfl)
theorem dX7_unmounts_24 : decode cX7_unmounts 24 = .ok (.bipush 52, 2) := dk_16 52 (dk_at dksX7_unmounts_1 0 rfl rfl)
theorem dX7_unmounts_26 : decode cX7_unmounts 26 = .ok (.iload_n 1, 1) := dk_27 (dk_at dksX7_unmounts_1 2 rfl rfl)
theorem dX7_unmounts_27 : decode cX7_unmounts 27 = .ok (.iadd, 1) := dk_96 (dk_at dksX7_unmounts_1 3 rfl rfl)
theorem dX7_unmounts_28 : decode cX7_unmounts 28 = .ok (.iconst 0, 1) := dk_3 (dk_at dksX7_unmounts_1 4 rfl rfl)
theorem dX7_unmounts_29 : decode cX7_unmounts 29 = .ok (.iastore, 1) := dk_79 (dk_at dksX7_unmounts_1 5 rfl rfl)
theorem dX7_unmounts_30 : decode cX7_unmounts 30 = .ok (.iload_n 2, 1) := dk_28 (dk_at dksX7_unmounts_1 6 rfl rfl)
theorem dX7_unmounts_31 : decode cX7_unmounts 31 = .ok (.ireturn, 1) := dk_172 (dk_at dksX7_unmounts_1 7 rfl rfl)
abbrev cX7_seek : ByteArray := prog_13_method_41_code
def yX7_seek : MethodName := ⟨RX7, "seek", "(II)I"⟩
def dkwX7_seek_1 : List UInt8 := [182, 0, 68, 42, 27, 28, 182, 0, 123, 172]
abbrev dktX7_seek_1 : List UInt8 := dkwX7_seek_1 ++ []
def dkwX7_seek_0 : List UInt8 := [42, 3, 181, 0, 32, 42, 27, 28, 182, 0, 120, 62, 29, 158, 0, 9, 42, 29, 182, 0, 78, 172, 42]
abbrev dktX7_seek_0 : List UInt8 := dkwX7_seek_0 ++ dktX7_seek_1
theorem dksX7_seek_0 : cX7_seek.data.toList.drop 0 = dktX7_seek_0 := by decide +kernel
theorem dksX7_seek_1 : cX7_seek.data.toList.drop 23 = dktX7_seek_1 := dk_seg dksX7_seek_0 23 rfl rfl
theorem dX7_seek_0 : decode cX7_seek 0 = .ok (.aload_n 0, 1) := dk_42 (dk_at dksX7_seek_0 0 rfl rfl)
theorem dX7_seek_1 : decode cX7_seek 1 = .ok (.iconst 0, 1) := dk_3 (dk_at dksX7_seek_0 1 rfl rfl)
theorem dX7_seek_2 : decode cX7_seek 2 = .ok (.putfield 32, 3) := dk_181 0 32 (dk_at dksX7_seek_0 2 rfl rfl)
theorem dX7_seek_5 : decode cX7_seek 5 = .ok (.aload_n 0, 1) := dk_42 (dk_at dksX7_seek_0 5 rfl rfl)
theorem dX7_seek_6 : decode cX7_seek 6 = .ok (.iload_n 1, 1) := dk_27 (dk_at dksX7_seek_0 6 rfl rfl)
theorem dX7_seek_7 : decode cX7_seek 7 = .ok (.iload_n 2, 1) := dk_28 (dk_at dksX7_seek_0 7 rfl rfl)
theorem dX7_seek_8 : decode cX7_seek 8 = .ok (.invokevirtual 120, 3) := dk_182 0 120 (dk_at dksX7_seek_0 8 rfl rfl)
theorem dX7_seek_11 : decode cX7_seek 11 = .ok (.istore_n 3, 1) := dk_62 (dk_at dksX7_seek_0 11 rfl rfl)
theorem dX7_seek_12 : decode cX7_seek 12 = .ok (.iload_n 3, 1) := dk_29 (dk_at dksX7_seek_0 12 rfl rfl)
theorem dX7_seek_13 : decode cX7_seek 13 = .ok (.ifCond .le 9, 3) := dk_158 0 9 (dk_at dksX7_seek_0 13 rfl rfl)
theorem dX7_seek_16 : decode cX7_seek 16 = .ok (.aload_n 0, 1) := dk_42 (dk_at dksX7_seek_0 16 rfl rfl)
theorem dX7_seek_17 : decode cX7_seek 17 = .ok (.iload_n 3, 1) := dk_29 (dk_at dksX7_seek_0 17 rfl rfl)
theorem dX7_seek_18 : decode cX7_seek 18 = .ok (.invokevirtual 78, 3) := dk_182 0 78 (dk_at dksX7_seek_0 18 rfl rfl)
theorem dX7_seek_21 : decode cX7_seek 21 = .ok (.ireturn, 1) := dk_172 (dk_at dksX7_seek_0 21 rfl rfl)
theorem dX7_seek_22 : decode cX7_seek 22 = .ok (.aload_n 0, 1) := dk_42 (dk_at dksX7_seek_0 22 rfl rfl)
theorem dX7_seek_23 : decode cX7_seek 23 = .ok (.invokevirtual 68, 3) := dk_182 0 68 (dk_at dksX7_seek_1 0 rfl rfl)
theorem dX7_seek_26 : decode cX7_seek 26 = .ok (.aload_n 0, 1) := dk_42 (dk_at dksX7_seek_1 3 rfl rfl)
theorem dX7_seek_27 : decode cX7_seek 27 = .ok (.iload_n 1, 1) := dk_27 (dk_at dksX7_seek_1 4 rfl rfl)
theorem dX7_seek_28 : decode cX7_seek 28 = .ok (.iload_n 2, 1) := dk_28 (dk_at dksX7_seek_1 5 rfl rfl)
theorem dX7_seek_29 : decode cX7_seek 29 = .ok (.invokevirtual 123, 3) := dk_182 0 123 (dk_at dksX7_seek_1 6 rfl rfl)
theorem dX7_seek_32 : decode cX7_seek 32 = .ok (.ireturn, 1) := dk_172 (dk_at dksX7_seek_1 9 rfl rfl)
abbrev cX7_seekRefusal : ByteArray := prog_13_method_26_code
def yX7_seekRefusal : MethodName := ⟨RX7, "seekRefusal", "(II)I"⟩
def dkwX7_seekRefusal_0 : List UInt8 := [27, 184, 0, 71, 153, 0, 10, 28, 184, 0, 90, 154, 0, 7, 4, 167, 0, 8, 42, 27, 182, 0, 93, 172]
abbrev dktX7_seekRefusal_0 : List UInt8 := dkwX7_seekRefusal_0 ++ []
theorem dksX7_seekRefusal_0 : cX7_seekRefusal.data.toList.drop 0 = dktX7_seekRefusal_0 := by decide +kernel
theorem dX7_seekRefusal_0 : decode cX7_seekRefusal 0 = .ok (.iload_n 1, 1) := dk_27 (dk_at dksX7_seekRefusal_0 0 rfl rfl)
theorem dX7_seekRefusal_1 : decode cX7_seekRefusal 1 = .ok (.invokestatic 71, 3) := dk_184 0 71 (dk_at dksX7_seekRefusal_0 1 rfl rfl)
theorem dX7_seekRefusal_4 : decode cX7_seekRefusal 4 = .ok (.ifCond .eq 10, 3) := dk_153 0 10 (dk_at dksX7_seekRefusal_0 4 rfl rfl)
theorem dX7_seekRefusal_7 : decode cX7_seekRefusal 7 = .ok (.iload_n 2, 1) := dk_28 (dk_at dksX7_seekRefusal_0 7 rfl rfl)
theorem dX7_seekRefusal_8 : decode cX7_seekRefusal 8 = .ok (.invokestatic 90, 3) := dk_184 0 90 (dk_at dksX7_seekRefusal_0 8 rfl rfl)
theorem dX7_seekRefusal_11 : decode cX7_seekRefusal 11 = .ok (.ifCond .ne 7, 3) := dk_154 0 7 (dk_at dksX7_seekRefusal_0 11 rfl rfl)
theorem dX7_seekRefusal_14 : decode cX7_seekRefusal 14 = .ok (.iconst 1, 1) := dk_4 (dk_at dksX7_seekRefusal_0 14 rfl rfl)
theorem dX7_seekRefusal_15 : decode cX7_seekRefusal 15 = .ok (.goto 8, 3) := dk_167 0 8 (dk_at dksX7_seekRefusal_0 15 rfl rfl)
theorem dX7_seekRefusal_18 : decode cX7_seekRefusal 18 = .ok (.aload_n 0, 1) := dk_42 (dk_at dksX7_seekRefusal_0 18 rfl rfl)
theorem dX7_seekRefusal_19 : decode cX7_seekRefusal 19 = .ok (.iload_n 1, 1) := dk_27 (dk_at dksX7_seekRefusal_0 19 rfl rfl)
theorem dX7_seekRefusal_20 : decode cX7_seekRefusal 20 = .ok (.invokevirtual 93, 3) := dk_182 0 93 (dk_at dksX7_seekRefusal_0 20 rfl rfl)
theorem dX7_seekRefusal_23 : decode cX7_seekRefusal 23 = .ok (.ireturn, 1) := dk_172 (dk_at dksX7_seekRefusal_0 23 rfl rfl)
abbrev cX7_isCylinder : ByteArray := prog_13_method_9_code
def yX7_isCylinder : MethodName := ⟨RX7, "isCylinder", "(I)Z"⟩
def dkwX7_isCylinder_0 : List UInt8 := [26, 3, 16, 39, 184, 0, 36, 172]
abbrev dktX7_isCylinder_0 : List UInt8 := dkwX7_isCylinder_0 ++ []
theorem dksX7_isCylinder_0 : cX7_isCylinder.data.toList.drop 0 = dktX7_isCylinder_0 := by decide +kernel
theorem dX7_isCylinder_0 : decode cX7_isCylinder 0 = .ok (.iload_n 0, 1) := dk_26 (dk_at dksX7_isCylinder_0 0 rfl rfl)
theorem dX7_isCylinder_1 : decode cX7_isCylinder 1 = .ok (.iconst 0, 1) := dk_3 (dk_at dksX7_isCylinder_0 1 rfl rfl)
theorem dX7_isCylinder_2 : decode cX7_isCylinder 2 = .ok (.bipush 39, 2) := dk_16 39 (dk_at dksX7_isCylinder_0 2 rfl rfl)
theorem dX7_isCylinder_4 : decode cX7_isCylinder 4 = .ok (.invokestatic 36, 3) := dk_184 0 36 (dk_at dksX7_isCylinder_0 4 rfl rfl)
theorem dX7_isCylinder_7 : decode cX7_isCylinder 7 = .ok (.ireturn, 1) := dk_172 (dk_at dksX7_isCylinder_0 7 rfl rfl)
abbrev cX7_seeks : ByteArray := prog_13_method_31_code
def yX7_seeks : MethodName := ⟨RX7, "seeks", "(II)I"⟩
def dkwX7_seeks_1 : List UInt8 := [156, 0, 8, 29, 116, 167, 0, 4, 29, 172]
abbrev dktX7_seeks_1 : List UInt8 := dkwX7_seeks_1 ++ []
def dkwX7_seeks_0 : List UInt8 := [28, 42, 180, 0, 7, 16, 52, 27, 96, 46, 100, 62, 42, 180, 0, 7, 16, 52, 27, 96, 28, 79, 29]
abbrev dktX7_seeks_0 : List UInt8 := dkwX7_seeks_0 ++ dktX7_seeks_1
theorem dksX7_seeks_0 : cX7_seeks.data.toList.drop 0 = dktX7_seeks_0 := by decide +kernel
theorem dksX7_seeks_1 : cX7_seeks.data.toList.drop 23 = dktX7_seeks_1 := dk_seg dksX7_seeks_0 23 rfl rfl
theorem dX7_seeks_0 : decode cX7_seeks 0 = .ok (.iload_n 2, 1) := dk_28 (dk_at dksX7_seeks_0 0 rfl rfl)
theorem dX7_seeks_1 : decode cX7_seeks 1 = .ok (.aload_n 0, 1) := dk_42 (dk_at dksX7_seeks_0 1 rfl rfl)
theorem dX7_seeks_2 : decode cX7_seeks 2 = .ok (.getfield 7, 3) := dk_180 0 7 (dk_at dksX7_seeks_0 2 rfl rfl)
theorem dX7_seeks_5 : decode cX7_seeks 5 = .ok (.bipush 52, 2) := dk_16 52 (dk_at dksX7_seeks_0 5 rfl rfl)
theorem dX7_seeks_7 : decode cX7_seeks 7 = .ok (.iload_n 1, 1) := dk_27 (dk_at dksX7_seeks_0 7 rfl rfl)
theorem dX7_seeks_8 : decode cX7_seeks 8 = .ok (.iadd, 1) := dk_96 (dk_at dksX7_seeks_0 8 rfl rfl)
theorem dX7_seeks_9 : decode cX7_seeks 9 = .ok (.iaload, 1) := dk_46 (dk_at dksX7_seeks_0 9 rfl rfl)
theorem dX7_seeks_10 : decode cX7_seeks 10 = .ok (.isub, 1) := dk_100 (dk_at dksX7_seeks_0 10 rfl rfl)
theorem dX7_seeks_11 : decode cX7_seeks 11 = .ok (.istore_n 3, 1) := dk_62 (dk_at dksX7_seeks_0 11 rfl rfl)
theorem dX7_seeks_12 : decode cX7_seeks 12 = .ok (.aload_n 0, 1) := dk_42 (dk_at dksX7_seeks_0 12 rfl rfl)
theorem dX7_seeks_13 : decode cX7_seeks 13 = .ok (.getfield 7, 3) := dk_180 0 7 (dk_at dksX7_seeks_0 13 rfl rfl)
theorem dX7_seeks_16 : decode cX7_seeks 16 = .ok (.bipush 52, 2) := dk_16 52 (dk_at dksX7_seeks_0 16 rfl rfl)
theorem dX7_seeks_18 : decode cX7_seeks 18 = .ok (.iload_n 1, 1) := dk_27 (dk_at dksX7_seeks_0 18 rfl rfl)
theorem dX7_seeks_19 : decode cX7_seeks 19 = .ok (.iadd, 1) := dk_96 (dk_at dksX7_seeks_0 19 rfl rfl)
theorem dX7_seeks_20 : decode cX7_seeks 20 = .ok (.iload_n 2, 1) := dk_28 (dk_at dksX7_seeks_0 20 rfl rfl)
theorem dX7_seeks_21 : decode cX7_seeks 21 = .ok (.iastore, 1) := dk_79 (dk_at dksX7_seeks_0 21 rfl rfl)
theorem dX7_seeks_22 : decode cX7_seeks 22 = .ok (.iload_n 3, 1) := dk_29 (dk_at dksX7_seeks_0 22 rfl rfl)
theorem dX7_seeks_23 : decode cX7_seeks 23 = .ok (.ifCond .ge 8, 3) := dk_156 0 8 (dk_at dksX7_seeks_1 0 rfl rfl)
theorem dX7_seeks_26 : decode cX7_seeks 26 = .ok (.iload_n 3, 1) := dk_29 (dk_at dksX7_seeks_1 3 rfl rfl)
theorem dX7_seeks_27 : decode cX7_seeks 27 = .ok (.ineg, 1) := dk_116 (dk_at dksX7_seeks_1 4 rfl rfl)
theorem dX7_seeks_28 : decode cX7_seeks 28 = .ok (.goto 4, 3) := dk_167 0 4 (dk_at dksX7_seeks_1 5 rfl rfl)
theorem dX7_seeks_31 : decode cX7_seeks 31 = .ok (.iload_n 3, 1) := dk_29 (dk_at dksX7_seeks_1 8 rfl rfl)
theorem dX7_seeks_32 : decode cX7_seeks 32 = .ok (.ireturn, 1) := dk_172 (dk_at dksX7_seeks_1 9 rfl rfl)
abbrev cX7_setTries : ByteArray := prog_13_method_42_code
def yX7_setTries : MethodName := ⟨RX7, "setTries", "(I)I"⟩
def dkwX7_setTries_1 : List UInt8 := [167, 0, 8, 42, 4, 182, 0, 78, 172]
abbrev dktX7_setTries_1 : List UInt8 := dkwX7_setTries_1 ++ []
def dkwX7_setTries_0 : List UInt8 := [42, 3, 181, 0, 32, 27, 3, 16, 8, 184, 0, 36, 153, 0, 13, 42, 16, 88, 27, 182, 0, 81]
abbrev dktX7_setTries_0 : List UInt8 := dkwX7_setTries_0 ++ dktX7_setTries_1
theorem dksX7_setTries_0 : cX7_setTries.data.toList.drop 0 = dktX7_setTries_0 := by decide +kernel
theorem dksX7_setTries_1 : cX7_setTries.data.toList.drop 22 = dktX7_setTries_1 := dk_seg dksX7_setTries_0 22 rfl rfl
theorem dX7_setTries_0 : decode cX7_setTries 0 = .ok (.aload_n 0, 1) := dk_42 (dk_at dksX7_setTries_0 0 rfl rfl)
theorem dX7_setTries_1 : decode cX7_setTries 1 = .ok (.iconst 0, 1) := dk_3 (dk_at dksX7_setTries_0 1 rfl rfl)
theorem dX7_setTries_2 : decode cX7_setTries 2 = .ok (.putfield 32, 3) := dk_181 0 32 (dk_at dksX7_setTries_0 2 rfl rfl)
theorem dX7_setTries_5 : decode cX7_setTries 5 = .ok (.iload_n 1, 1) := dk_27 (dk_at dksX7_setTries_0 5 rfl rfl)
theorem dX7_setTries_6 : decode cX7_setTries 6 = .ok (.iconst 0, 1) := dk_3 (dk_at dksX7_setTries_0 6 rfl rfl)
theorem dX7_setTries_7 : decode cX7_setTries 7 = .ok (.bipush 8, 2) := dk_16 8 (dk_at dksX7_setTries_0 7 rfl rfl)
theorem dX7_setTries_9 : decode cX7_setTries 9 = .ok (.invokestatic 36, 3) := dk_184 0 36 (dk_at dksX7_setTries_0 9 rfl rfl)
theorem dX7_setTries_12 : decode cX7_setTries 12 = .ok (.ifCond .eq 13, 3) := dk_153 0 13 (dk_at dksX7_setTries_0 12 rfl rfl)
theorem dX7_setTries_15 : decode cX7_setTries 15 = .ok (.aload_n 0, 1) := dk_42 (dk_at dksX7_setTries_0 15 rfl rfl)
theorem dX7_setTries_16 : decode cX7_setTries 16 = .ok (.bipush 88, 2) := dk_16 88 (dk_at dksX7_setTries_0 16 rfl rfl)
theorem dX7_setTries_18 : decode cX7_setTries 18 = .ok (.iload_n 1, 1) := dk_27 (dk_at dksX7_setTries_0 18 rfl rfl)
theorem dX7_setTries_19 : decode cX7_setTries 19 = .ok (.invokevirtual 81, 3) := dk_182 0 81 (dk_at dksX7_setTries_0 19 rfl rfl)
theorem dX7_setTries_22 : decode cX7_setTries 22 = .ok (.goto 8, 3) := dk_167 0 8 (dk_at dksX7_setTries_1 0 rfl rfl)
theorem dX7_setTries_25 : decode cX7_setTries 25 = .ok (.aload_n 0, 1) := dk_42 (dk_at dksX7_setTries_1 3 rfl rfl)
theorem dX7_setTries_26 : decode cX7_setTries 26 = .ok (.iconst 1, 1) := dk_4 (dk_at dksX7_setTries_1 4 rfl rfl)
theorem dX7_setTries_27 : decode cX7_setTries 27 = .ok (.invokevirtual 78, 3) := dk_182 0 78 (dk_at dksX7_setTries_1 5 rfl rfl)
theorem dX7_setTries_30 : decode cX7_setTries 30 = .ok (.ireturn, 1) := dk_172 (dk_at dksX7_setTries_1 8 rfl rfl)
abbrev cX7_forget : ByteArray := prog_13_method_43_code
def yX7_forget : MethodName := ⟨RX7, "forget", "(II)I"⟩
def dkwX7_forget_1 : List UInt8 := [182, 0, 44, 3, 182, 0, 81, 167, 0, 8, 42, 4, 182, 0, 78, 172]
abbrev dktX7_forget_1 : List UInt8 := dkwX7_forget_1 ++ []
def dkwX7_forget_0 : List UInt8 := [42, 3, 181, 0, 32, 27, 184, 0, 71, 153, 0, 25, 42, 28, 182, 0, 84, 153, 0, 17, 42, 42, 27, 28]
abbrev dktX7_forget_0 : List UInt8 := dkwX7_forget_0 ++ dktX7_forget_1
theorem dksX7_forget_0 : cX7_forget.data.toList.drop 0 = dktX7_forget_0 := by decide +kernel
theorem dksX7_forget_1 : cX7_forget.data.toList.drop 24 = dktX7_forget_1 := dk_seg dksX7_forget_0 24 rfl rfl
theorem dX7_forget_0 : decode cX7_forget 0 = .ok (.aload_n 0, 1) := dk_42 (dk_at dksX7_forget_0 0 rfl rfl)
theorem dX7_forget_1 : decode cX7_forget 1 = .ok (.iconst 0, 1) := dk_3 (dk_at dksX7_forget_0 1 rfl rfl)
theorem dX7_forget_2 : decode cX7_forget 2 = .ok (.putfield 32, 3) := dk_181 0 32 (dk_at dksX7_forget_0 2 rfl rfl)
theorem dX7_forget_5 : decode cX7_forget 5 = .ok (.iload_n 1, 1) := dk_27 (dk_at dksX7_forget_0 5 rfl rfl)
theorem dX7_forget_6 : decode cX7_forget 6 = .ok (.invokestatic 71, 3) := dk_184 0 71 (dk_at dksX7_forget_0 6 rfl rfl)
theorem dX7_forget_9 : decode cX7_forget 9 = .ok (.ifCond .eq 25, 3) := dk_153 0 25 (dk_at dksX7_forget_0 9 rfl rfl)
theorem dX7_forget_12 : decode cX7_forget 12 = .ok (.aload_n 0, 1) := dk_42 (dk_at dksX7_forget_0 12 rfl rfl)
theorem dX7_forget_13 : decode cX7_forget 13 = .ok (.iload_n 2, 1) := dk_28 (dk_at dksX7_forget_0 13 rfl rfl)
theorem dX7_forget_14 : decode cX7_forget 14 = .ok (.invokevirtual 84, 3) := dk_182 0 84 (dk_at dksX7_forget_0 14 rfl rfl)
theorem dX7_forget_17 : decode cX7_forget 17 = .ok (.ifCond .eq 17, 3) := dk_153 0 17 (dk_at dksX7_forget_0 17 rfl rfl)
theorem dX7_forget_20 : decode cX7_forget 20 = .ok (.aload_n 0, 1) := dk_42 (dk_at dksX7_forget_0 20 rfl rfl)
theorem dX7_forget_21 : decode cX7_forget 21 = .ok (.aload_n 0, 1) := dk_42 (dk_at dksX7_forget_0 21 rfl rfl)
theorem dX7_forget_22 : decode cX7_forget 22 = .ok (.iload_n 1, 1) := dk_27 (dk_at dksX7_forget_0 22 rfl rfl)
theorem dX7_forget_23 : decode cX7_forget 23 = .ok (.iload_n 2, 1) := dk_28 (dk_at dksX7_forget_0 23 rfl rfl)
theorem dX7_forget_24 : decode cX7_forget 24 = .ok (.invokevirtual 44, 3) := dk_182 0 44 (dk_at dksX7_forget_1 0 rfl rfl)
theorem dX7_forget_27 : decode cX7_forget 27 = .ok (.iconst 0, 1) := dk_3 (dk_at dksX7_forget_1 3 rfl rfl)
theorem dX7_forget_28 : decode cX7_forget 28 = .ok (.invokevirtual 81, 3) := dk_182 0 81 (dk_at dksX7_forget_1 4 rfl rfl)
theorem dX7_forget_31 : decode cX7_forget 31 = .ok (.goto 8, 3) := dk_167 0 8 (dk_at dksX7_forget_1 7 rfl rfl)
theorem dX7_forget_34 : decode cX7_forget 34 = .ok (.aload_n 0, 1) := dk_42 (dk_at dksX7_forget_1 10 rfl rfl)
theorem dX7_forget_35 : decode cX7_forget 35 = .ok (.iconst 1, 1) := dk_4 (dk_at dksX7_forget_1 11 rfl rfl)
theorem dX7_forget_36 : decode cX7_forget 36 = .ok (.invokevirtual 78, 3) := dk_182 0 78 (dk_at dksX7_forget_1 12 rfl rfl)
theorem dX7_forget_39 : decode cX7_forget 39 = .ok (.ireturn, 1) := dk_172 (dk_at dksX7_forget_1 15 rfl rfl)
abbrev cX7_write : ByteArray := prog_13_method_44_code
def yX7_write : MethodName := ⟨RX7, "write", "(III)I"⟩
def dkwX7_write_1 : List UInt8 := [182, 0, 78, 172, 42, 182, 0, 68, 42, 27, 28, 29, 182, 0, 129, 172]
abbrev dktX7_write_1 : List UInt8 := dkwX7_write_1 ++ []
def dkwX7_write_0 : List UInt8 := [42, 3, 181, 0, 32, 42, 27, 28, 29, 182, 0, 126, 54, 4, 21, 4, 158, 0, 10, 42, 21, 4]
abbrev dktX7_write_0 : List UInt8 := dkwX7_write_0 ++ dktX7_write_1
theorem dksX7_write_0 : cX7_write.data.toList.drop 0 = dktX7_write_0 := by decide +kernel
theorem dksX7_write_1 : cX7_write.data.toList.drop 22 = dktX7_write_1 := dk_seg dksX7_write_0 22 rfl rfl
theorem dX7_write_0 : decode cX7_write 0 = .ok (.aload_n 0, 1) := dk_42 (dk_at dksX7_write_0 0 rfl rfl)
theorem dX7_write_1 : decode cX7_write 1 = .ok (.iconst 0, 1) := dk_3 (dk_at dksX7_write_0 1 rfl rfl)
theorem dX7_write_2 : decode cX7_write 2 = .ok (.putfield 32, 3) := dk_181 0 32 (dk_at dksX7_write_0 2 rfl rfl)
theorem dX7_write_5 : decode cX7_write 5 = .ok (.aload_n 0, 1) := dk_42 (dk_at dksX7_write_0 5 rfl rfl)
theorem dX7_write_6 : decode cX7_write 6 = .ok (.iload_n 1, 1) := dk_27 (dk_at dksX7_write_0 6 rfl rfl)
theorem dX7_write_7 : decode cX7_write 7 = .ok (.iload_n 2, 1) := dk_28 (dk_at dksX7_write_0 7 rfl rfl)
theorem dX7_write_8 : decode cX7_write 8 = .ok (.iload_n 3, 1) := dk_29 (dk_at dksX7_write_0 8 rfl rfl)
theorem dX7_write_9 : decode cX7_write 9 = .ok (.invokevirtual 126, 3) := dk_182 0 126 (dk_at dksX7_write_0 9 rfl rfl)
theorem dX7_write_12 : decode cX7_write 12 = .ok (.istore 4, 2) := dk_54 4 (dk_at dksX7_write_0 12 rfl rfl)
theorem dX7_write_14 : decode cX7_write 14 = .ok (.iload 4, 2) := dk_21 4 (dk_at dksX7_write_0 14 rfl rfl)
theorem dX7_write_16 : decode cX7_write 16 = .ok (.ifCond .le 10, 3) := dk_158 0 10 (dk_at dksX7_write_0 16 rfl rfl)
theorem dX7_write_19 : decode cX7_write 19 = .ok (.aload_n 0, 1) := dk_42 (dk_at dksX7_write_0 19 rfl rfl)
theorem dX7_write_20 : decode cX7_write 20 = .ok (.iload 4, 2) := dk_21 4 (dk_at dksX7_write_0 20 rfl rfl)
theorem dX7_write_22 : decode cX7_write 22 = .ok (.invokevirtual 78, 3) := dk_182 0 78 (dk_at dksX7_write_1 0 rfl rfl)
theorem dX7_write_25 : decode cX7_write 25 = .ok (.ireturn, 1) := dk_172 (dk_at dksX7_write_1 3 rfl rfl)
theorem dX7_write_26 : decode cX7_write 26 = .ok (.aload_n 0, 1) := dk_42 (dk_at dksX7_write_1 4 rfl rfl)
theorem dX7_write_27 : decode cX7_write 27 = .ok (.invokevirtual 68, 3) := dk_182 0 68 (dk_at dksX7_write_1 5 rfl rfl)
theorem dX7_write_30 : decode cX7_write 30 = .ok (.aload_n 0, 1) := dk_42 (dk_at dksX7_write_1 8 rfl rfl)
theorem dX7_write_31 : decode cX7_write 31 = .ok (.iload_n 1, 1) := dk_27 (dk_at dksX7_write_1 9 rfl rfl)
theorem dX7_write_32 : decode cX7_write 32 = .ok (.iload_n 2, 1) := dk_28 (dk_at dksX7_write_1 10 rfl rfl)
theorem dX7_write_33 : decode cX7_write 33 = .ok (.iload_n 3, 1) := dk_29 (dk_at dksX7_write_1 11 rfl rfl)
theorem dX7_write_34 : decode cX7_write 34 = .ok (.invokevirtual 129, 3) := dk_182 0 129 (dk_at dksX7_write_1 12 rfl rfl)
theorem dX7_write_37 : decode cX7_write 37 = .ok (.ireturn, 1) := dk_172 (dk_at dksX7_write_1 15 rfl rfl)
abbrev cX7_writeRefusal : ByteArray := prog_13_method_28_code
def yX7_writeRefusal : MethodName := ⟨RX7, "writeRefusal", "(III)I"⟩
def dkwX7_writeRefusal_2 : List UInt8 := [3, 172]
abbrev dktX7_writeRefusal_2 : List UInt8 := dkwX7_writeRefusal_2 ++ []
def dkwX7_writeRefusal_1 : List UInt8 := [154, 0, 7, 5, 167, 0, 21, 42, 180, 0, 7, 16, 60, 27, 96, 46, 2, 160, 0, 7, 6, 167, 0, 4]
abbrev dktX7_writeRefusal_1 : List UInt8 := dkwX7_writeRefusal_1 ++ dktX7_writeRefusal_2
def dkwX7_writeRefusal_0 : List UInt8 := [27, 184, 0, 71, 153, 0, 10, 28, 184, 0, 96, 154, 0, 5, 4, 172, 29, 3, 17, 3, 231, 184, 0, 36]
abbrev dktX7_writeRefusal_0 : List UInt8 := dkwX7_writeRefusal_0 ++ dktX7_writeRefusal_1
theorem dksX7_writeRefusal_0 : cX7_writeRefusal.data.toList.drop 0 = dktX7_writeRefusal_0 := by decide +kernel
theorem dksX7_writeRefusal_1 : cX7_writeRefusal.data.toList.drop 24 = dktX7_writeRefusal_1 := dk_seg dksX7_writeRefusal_0 24 rfl rfl
theorem dksX7_writeRefusal_2 : cX7_writeRefusal.data.toList.drop 48 = dktX7_writeRefusal_2 := dk_seg dksX7_writeRefusal_1 24 rfl rfl
theorem dX7_writeRefusal_0 : decode cX7_writeRefusal 0 = .ok (.iload_n 1, 1) := dk_27 (dk_at dksX7_writeRefusal_0 0 rfl rfl)
theorem dX7_writeRefusal_1 : decode cX7_writeRefusal 1 = .ok (.invokestatic 71, 3) := dk_184 0 71 (dk_at dksX7_writeRefusal_0 1 rfl rfl)
theorem dX7_writeRefusal_4 : decode cX7_writeRefusal 4 = .ok (.ifCond .eq 10, 3) := dk_153 0 10 (dk_at dksX7_writeRefusal_0 4 rfl rfl)
theorem dX7_writeRefusal_7 : decode cX7_writeRefusal 7 = .ok (.iload_n 2, 1) := dk_28 (dk_at dksX7_writeRefusal_0 7 rfl rfl)
theorem dX7_writeRefusal_8 : decode cX7_writeRefusal 8 = .ok (.invokestatic 96, 3) := dk_184 0 96 (dk_at dksX7_writeRefusal_0 8 rfl rfl)
theorem dX7_writeRefusal_11 : decode cX7_writeRefusal 11 = .ok (.ifCond .ne 5, 3) := dk_154 0 5 (dk_at dksX7_writeRefusal_0 11 rfl rfl)
theorem dX7_writeRefusal_14 : decode cX7_writeRefusal 14 = .ok (.iconst 1, 1) := dk_4 (dk_at dksX7_writeRefusal_0 14 rfl rfl)
theorem dX7_writeRefusal_15 : decode cX7_writeRefusal 15 = .ok (.ireturn, 1) := dk_172 (dk_at dksX7_writeRefusal_0 15 rfl rfl)
theorem dX7_writeRefusal_16 : decode cX7_writeRefusal 16 = .ok (.iload_n 3, 1) := dk_29 (dk_at dksX7_writeRefusal_0 16 rfl rfl)
theorem dX7_writeRefusal_17 : decode cX7_writeRefusal 17 = .ok (.iconst 0, 1) := dk_3 (dk_at dksX7_writeRefusal_0 17 rfl rfl)
theorem dX7_writeRefusal_18 : decode cX7_writeRefusal 18 = .ok (.sipush 999, 3) := dk_17 3 231 (dk_at dksX7_writeRefusal_0 18 rfl rfl)
theorem dX7_writeRefusal_21 : decode cX7_writeRefusal 21 = .ok (.invokestatic 36, 3) := dk_184 0 36 (dk_at dksX7_writeRefusal_0 21 rfl rfl)
theorem dX7_writeRefusal_24 : decode cX7_writeRefusal 24 = .ok (.ifCond .ne 7, 3) := dk_154 0 7 (dk_at dksX7_writeRefusal_1 0 rfl rfl)
theorem dX7_writeRefusal_27 : decode cX7_writeRefusal 27 = .ok (.iconst 2, 1) := dk_5 (dk_at dksX7_writeRefusal_1 3 rfl rfl)
theorem dX7_writeRefusal_28 : decode cX7_writeRefusal 28 = .ok (.goto 21, 3) := dk_167 0 21 (dk_at dksX7_writeRefusal_1 4 rfl rfl)
theorem dX7_writeRefusal_31 : decode cX7_writeRefusal 31 = .ok (.aload_n 0, 1) := dk_42 (dk_at dksX7_writeRefusal_1 7 rfl rfl)
theorem dX7_writeRefusal_32 : decode cX7_writeRefusal 32 = .ok (.getfield 7, 3) := dk_180 0 7 (dk_at dksX7_writeRefusal_1 8 rfl rfl)
theorem dX7_writeRefusal_35 : decode cX7_writeRefusal 35 = .ok (.bipush 60, 2) := dk_16 60 (dk_at dksX7_writeRefusal_1 11 rfl rfl)
theorem dX7_writeRefusal_37 : decode cX7_writeRefusal 37 = .ok (.iload_n 1, 1) := dk_27 (dk_at dksX7_writeRefusal_1 13 rfl rfl)
theorem dX7_writeRefusal_38 : decode cX7_writeRefusal 38 = .ok (.iadd, 1) := dk_96 (dk_at dksX7_writeRefusal_1 14 rfl rfl)
theorem dX7_writeRefusal_39 : decode cX7_writeRefusal 39 = .ok (.iaload, 1) := dk_46 (dk_at dksX7_writeRefusal_1 15 rfl rfl)
theorem dX7_writeRefusal_40 : decode cX7_writeRefusal 40 = .ok (.iconst (-1), 1) := dk_2 (dk_at dksX7_writeRefusal_1 16 rfl rfl)
theorem dX7_writeRefusal_41 : decode cX7_writeRefusal 41 = .ok (.if_icmp .ne 7, 3) := dk_160 0 7 (dk_at dksX7_writeRefusal_1 17 rfl rfl)
theorem dX7_writeRefusal_44 : decode cX7_writeRefusal 44 = .ok (.iconst 3, 1) := dk_6 (dk_at dksX7_writeRefusal_1 20 rfl rfl)
theorem dX7_writeRefusal_45 : decode cX7_writeRefusal 45 = .ok (.goto 4, 3) := dk_167 0 4 (dk_at dksX7_writeRefusal_1 21 rfl rfl)
theorem dX7_writeRefusal_48 : decode cX7_writeRefusal 48 = .ok (.iconst 0, 1) := dk_3 (dk_at dksX7_writeRefusal_2 0 rfl rfl)
theorem dX7_writeRefusal_49 : decode cX7_writeRefusal 49 = .ok (.ireturn, 1) := dk_172 (dk_at dksX7_writeRefusal_2 1 rfl rfl)
abbrev cX7_isDataHead : ByteArray := prog_13_method_8_code
def yX7_isDataHead : MethodName := ⟨RX7, "isDataHead", "(I)Z"⟩
def dkwX7_isDataHead_0 : List UInt8 := [26, 3, 5, 184, 0, 36, 172]
abbrev dktX7_isDataHead_0 : List UInt8 := dkwX7_isDataHead_0 ++ []
theorem dksX7_isDataHead_0 : cX7_isDataHead.data.toList.drop 0 = dktX7_isDataHead_0 := by decide +kernel
theorem dX7_isDataHead_0 : decode cX7_isDataHead 0 = .ok (.iload_n 0, 1) := dk_26 (dk_at dksX7_isDataHead_0 0 rfl rfl)
theorem dX7_isDataHead_1 : decode cX7_isDataHead 1 = .ok (.iconst 0, 1) := dk_3 (dk_at dksX7_isDataHead_0 1 rfl rfl)
theorem dX7_isDataHead_2 : decode cX7_isDataHead 2 = .ok (.iconst 2, 1) := dk_5 (dk_at dksX7_isDataHead_0 2 rfl rfl)
theorem dX7_isDataHead_3 : decode cX7_isDataHead 3 = .ok (.invokestatic 36, 3) := dk_184 0 36 (dk_at dksX7_isDataHead_0 3 rfl rfl)
theorem dX7_isDataHead_6 : decode cX7_isDataHead 6 = .ok (.ireturn, 1) := dk_172 (dk_at dksX7_isDataHead_0 6 rfl rfl)
abbrev cX7_writes : ByteArray := prog_13_method_33_code
def yX7_writes : MethodName := ⟨RX7, "writes", "(III)I"⟩
def dkwX7_writes_7 : List UInt8 := [21, 5, 172]
abbrev dktX7_writes_7 : List UInt8 := dkwX7_writes_7 ++ []
def dkwX7_writes_6 : List UInt8 := [21, 4, 96, 29, 79, 42, 180, 0, 7, 17, 3, 78, 21, 4, 96, 21, 5, 79, 42, 27, 28, 182, 0, 100]
abbrev dktX7_writes_6 : List UInt8 := dkwX7_writes_6 ++ dktX7_writes_7
def dkwX7_writes_5 : List UInt8 := [21, 6, 16, 246, 162, 0, 11, 23, 7, 18, 99, 106, 167, 0, 5, 23, 7, 81, 42, 180, 0, 7, 16, 126]
abbrev dktX7_writes_5 : List UInt8 := dkwX7_writes_5 ++ dktX7_writes_6
def dkwX7_writes_4 : List UInt8 := [21, 4, 42, 180, 0, 7, 16, 126, 21, 4, 96, 46, 2, 159, 0, 25, 21, 6, 16, 10, 163, 0, 10]
abbrev dktX7_writes_4 : List UInt8 := dkwX7_writes_4 ++ dktX7_writes_5
def dkwX7_writes_3 : List UInt8 := [27, 28, 184, 0, 40, 96, 46, 4, 160, 0, 8, 18, 64, 167, 0, 4, 12, 56, 7, 42, 180, 0, 13]
abbrev dktX7_writes_3 : List UInt8 := dkwX7_writes_3 ++ dktX7_writes_4
def dkwX7_writes_2 : List UInt8 := [54, 5, 21, 5, 42, 180, 0, 7, 17, 3, 78, 21, 4, 96, 46, 100, 54, 6, 42, 180, 0, 7, 16, 16]
abbrev dktX7_writes_2 : List UInt8 := dkwX7_writes_2 ++ dktX7_writes_3
def dkwX7_writes_1 : List UInt8 := [42, 27, 28, 42, 180, 0, 7, 16, 60, 27, 96, 46, 42, 180, 0, 7, 16, 52, 27, 96, 46, 182, 0, 51]
abbrev dktX7_writes_1 : List UInt8 := dkwX7_writes_1 ++ dktX7_writes_2
def dkwX7_writes_0 : List UInt8 := [42, 180, 0, 7, 16, 60, 27, 96, 46, 28, 42, 180, 0, 7, 16, 52, 27, 96, 46, 184, 0, 47, 54, 4]
abbrev dktX7_writes_0 : List UInt8 := dkwX7_writes_0 ++ dktX7_writes_1
theorem dksX7_writes_0 : cX7_writes.data.toList.drop 0 = dktX7_writes_0 := by decide +kernel
theorem dksX7_writes_1 : cX7_writes.data.toList.drop 24 = dktX7_writes_1 := dk_seg dksX7_writes_0 24 rfl rfl
theorem dksX7_writes_2 : cX7_writes.data.toList.drop 48 = dktX7_writes_2 := dk_seg dksX7_writes_1 24 rfl rfl
theorem dksX7_writes_3 : cX7_writes.data.toList.drop 72 = dktX7_writes_3 := dk_seg dksX7_writes_2 24 rfl rfl
theorem dksX7_writes_4 : cX7_writes.data.toList.drop 95 = dktX7_writes_4 := dk_seg dksX7_writes_3 23 rfl rfl
theorem dksX7_writes_5 : cX7_writes.data.toList.drop 118 = dktX7_writes_5 := dk_seg dksX7_writes_4 23 rfl rfl
theorem dksX7_writes_6 : cX7_writes.data.toList.drop 142 = dktX7_writes_6 := dk_seg dksX7_writes_5 24 rfl rfl
theorem dksX7_writes_7 : cX7_writes.data.toList.drop 166 = dktX7_writes_7 := dk_seg dksX7_writes_6 24 rfl rfl
theorem dX7_writes_0 : decode cX7_writes 0 = .ok (.aload_n 0, 1) := dk_42 (dk_at dksX7_writes_0 0 rfl rfl)
theorem dX7_writes_1 : decode cX7_writes 1 = .ok (.getfield 7, 3) := dk_180 0 7 (dk_at dksX7_writes_0 1 rfl rfl)
theorem dX7_writes_4 : decode cX7_writes 4 = .ok (.bipush 60, 2) := dk_16 60 (dk_at dksX7_writes_0 4 rfl rfl)
theorem dX7_writes_6 : decode cX7_writes 6 = .ok (.iload_n 1, 1) := dk_27 (dk_at dksX7_writes_0 6 rfl rfl)
theorem dX7_writes_7 : decode cX7_writes 7 = .ok (.iadd, 1) := dk_96 (dk_at dksX7_writes_0 7 rfl rfl)
theorem dX7_writes_8 : decode cX7_writes 8 = .ok (.iaload, 1) := dk_46 (dk_at dksX7_writes_0 8 rfl rfl)
theorem dX7_writes_9 : decode cX7_writes 9 = .ok (.iload_n 2, 1) := dk_28 (dk_at dksX7_writes_0 9 rfl rfl)
theorem dX7_writes_10 : decode cX7_writes 10 = .ok (.aload_n 0, 1) := dk_42 (dk_at dksX7_writes_0 10 rfl rfl)
theorem dX7_writes_11 : decode cX7_writes 11 = .ok (.getfield 7, 3) := dk_180 0 7 (dk_at dksX7_writes_0 11 rfl rfl)
theorem dX7_writes_14 : decode cX7_writes 14 = .ok (.bipush 52, 2) := dk_16 52 (dk_at dksX7_writes_0 14 rfl rfl)
theorem dX7_writes_16 : decode cX7_writes 16 = .ok (.iload_n 1, 1) := dk_27 (dk_at dksX7_writes_0 16 rfl rfl)
theorem dX7_writes_17 : decode cX7_writes 17 = .ok (.iadd, 1) := dk_96 (dk_at dksX7_writes_0 17 rfl rfl)
theorem dX7_writes_18 : decode cX7_writes 18 = .ok (.iaload, 1) := dk_46 (dk_at dksX7_writes_0 18 rfl rfl)
theorem dX7_writes_19 : decode cX7_writes 19 = .ok (.invokestatic 47, 3) := dk_184 0 47 (dk_at dksX7_writes_0 19 rfl rfl)
theorem dX7_writes_22 : decode cX7_writes 22 = .ok (.istore 4, 2) := dk_54 4 (dk_at dksX7_writes_0 22 rfl rfl)
theorem dX7_writes_24 : decode cX7_writes 24 = .ok (.aload_n 0, 1) := dk_42 (dk_at dksX7_writes_1 0 rfl rfl)
theorem dX7_writes_25 : decode cX7_writes 25 = .ok (.iload_n 1, 1) := dk_27 (dk_at dksX7_writes_1 1 rfl rfl)
theorem dX7_writes_26 : decode cX7_writes 26 = .ok (.iload_n 2, 1) := dk_28 (dk_at dksX7_writes_1 2 rfl rfl)
theorem dX7_writes_27 : decode cX7_writes 27 = .ok (.aload_n 0, 1) := dk_42 (dk_at dksX7_writes_1 3 rfl rfl)
theorem dX7_writes_28 : decode cX7_writes 28 = .ok (.getfield 7, 3) := dk_180 0 7 (dk_at dksX7_writes_1 4 rfl rfl)
theorem dX7_writes_31 : decode cX7_writes 31 = .ok (.bipush 60, 2) := dk_16 60 (dk_at dksX7_writes_1 7 rfl rfl)
theorem dX7_writes_33 : decode cX7_writes 33 = .ok (.iload_n 1, 1) := dk_27 (dk_at dksX7_writes_1 9 rfl rfl)
theorem dX7_writes_34 : decode cX7_writes 34 = .ok (.iadd, 1) := dk_96 (dk_at dksX7_writes_1 10 rfl rfl)
theorem dX7_writes_35 : decode cX7_writes 35 = .ok (.iaload, 1) := dk_46 (dk_at dksX7_writes_1 11 rfl rfl)
theorem dX7_writes_36 : decode cX7_writes 36 = .ok (.aload_n 0, 1) := dk_42 (dk_at dksX7_writes_1 12 rfl rfl)
theorem dX7_writes_37 : decode cX7_writes 37 = .ok (.getfield 7, 3) := dk_180 0 7 (dk_at dksX7_writes_1 13 rfl rfl)
theorem dX7_writes_40 : decode cX7_writes 40 = .ok (.bipush 52, 2) := dk_16 52 (dk_at dksX7_writes_1 16 rfl rfl)
theorem dX7_writes_42 : decode cX7_writes 42 = .ok (.iload_n 1, 1) := dk_27 (dk_at dksX7_writes_1 18 rfl rfl)
theorem dX7_writes_43 : decode cX7_writes 43 = .ok (.iadd, 1) := dk_96 (dk_at dksX7_writes_1 19 rfl rfl)
theorem dX7_writes_44 : decode cX7_writes 44 = .ok (.iaload, 1) := dk_46 (dk_at dksX7_writes_1 20 rfl rfl)
theorem dX7_writes_45 : decode cX7_writes 45 = .ok (.invokevirtual 51, 3) := dk_182 0 51 (dk_at dksX7_writes_1 21 rfl rfl)
theorem dX7_writes_48 : decode cX7_writes 48 = .ok (.istore 5, 2) := dk_54 5 (dk_at dksX7_writes_2 0 rfl rfl)
theorem dX7_writes_50 : decode cX7_writes 50 = .ok (.iload 5, 2) := dk_21 5 (dk_at dksX7_writes_2 2 rfl rfl)
theorem dX7_writes_52 : decode cX7_writes 52 = .ok (.aload_n 0, 1) := dk_42 (dk_at dksX7_writes_2 4 rfl rfl)
theorem dX7_writes_53 : decode cX7_writes 53 = .ok (.getfield 7, 3) := dk_180 0 7 (dk_at dksX7_writes_2 5 rfl rfl)
theorem dX7_writes_56 : decode cX7_writes 56 = .ok (.sipush 846, 3) := dk_17 3 78 (dk_at dksX7_writes_2 8 rfl rfl)
theorem dX7_writes_59 : decode cX7_writes 59 = .ok (.iload 4, 2) := dk_21 4 (dk_at dksX7_writes_2 11 rfl rfl)
theorem dX7_writes_61 : decode cX7_writes 61 = .ok (.iadd, 1) := dk_96 (dk_at dksX7_writes_2 13 rfl rfl)
theorem dX7_writes_62 : decode cX7_writes 62 = .ok (.iaload, 1) := dk_46 (dk_at dksX7_writes_2 14 rfl rfl)
theorem dX7_writes_63 : decode cX7_writes 63 = .ok (.isub, 1) := dk_100 (dk_at dksX7_writes_2 15 rfl rfl)
theorem dX7_writes_64 : decode cX7_writes 64 = .ok (.istore 6, 2) := dk_54 6 (dk_at dksX7_writes_2 16 rfl rfl)
theorem dX7_writes_66 : decode cX7_writes 66 = .ok (.aload_n 0, 1) := dk_42 (dk_at dksX7_writes_2 18 rfl rfl)
theorem dX7_writes_67 : decode cX7_writes 67 = .ok (.getfield 7, 3) := dk_180 0 7 (dk_at dksX7_writes_2 19 rfl rfl)
theorem dX7_writes_70 : decode cX7_writes 70 = .ok (.bipush 16, 2) := dk_16 16 (dk_at dksX7_writes_2 22 rfl rfl)
theorem dX7_writes_72 : decode cX7_writes 72 = .ok (.iload_n 1, 1) := dk_27 (dk_at dksX7_writes_3 0 rfl rfl)
theorem dX7_writes_73 : decode cX7_writes 73 = .ok (.iload_n 2, 1) := dk_28 (dk_at dksX7_writes_3 1 rfl rfl)
theorem dX7_writes_74 : decode cX7_writes 74 = .ok (.invokestatic 40, 3) := dk_184 0 40 (dk_at dksX7_writes_3 2 rfl rfl)
theorem dX7_writes_77 : decode cX7_writes 77 = .ok (.iadd, 1) := dk_96 (dk_at dksX7_writes_3 5 rfl rfl)
theorem dX7_writes_78 : decode cX7_writes 78 = .ok (.iaload, 1) := dk_46 (dk_at dksX7_writes_3 6 rfl rfl)
theorem dX7_writes_79 : decode cX7_writes 79 = .ok (.iconst 1, 1) := dk_4 (dk_at dksX7_writes_3 7 rfl rfl)
theorem dX7_writes_80 : decode cX7_writes 80 = .ok (.if_icmp .ne 8, 3) := dk_160 0 8 (dk_at dksX7_writes_3 8 rfl rfl)
theorem dX7_writes_83 : decode cX7_writes 83 = .ok (.ldc 64, 2) := dk_18 64 (dk_at dksX7_writes_3 11 rfl rfl)
theorem dX7_writes_85 : decode cX7_writes 85 = .ok (.goto 4, 3) := dk_167 0 4 (dk_at dksX7_writes_3 13 rfl rfl)
theorem dX7_writes_88 : decode cX7_writes 88 = .ok (.fconst 1, 1) := dk_12 (dk_at dksX7_writes_3 16 rfl rfl)
theorem dX7_writes_89 : decode cX7_writes 89 = .ok (.fstore 7, 2) := dk_56 7 (dk_at dksX7_writes_3 17 rfl rfl)
theorem dX7_writes_91 : decode cX7_writes 91 = .ok (.aload_n 0, 1) := dk_42 (dk_at dksX7_writes_3 19 rfl rfl)
theorem dX7_writes_92 : decode cX7_writes 92 = .ok (.getfield 13, 3) := dk_180 0 13 (dk_at dksX7_writes_3 20 rfl rfl)
theorem dX7_writes_95 : decode cX7_writes 95 = .ok (.iload 4, 2) := dk_21 4 (dk_at dksX7_writes_4 0 rfl rfl)
theorem dX7_writes_97 : decode cX7_writes 97 = .ok (.aload_n 0, 1) := dk_42 (dk_at dksX7_writes_4 2 rfl rfl)
theorem dX7_writes_98 : decode cX7_writes 98 = .ok (.getfield 7, 3) := dk_180 0 7 (dk_at dksX7_writes_4 3 rfl rfl)
theorem dX7_writes_101 : decode cX7_writes 101 = .ok (.bipush 126, 2) := dk_16 126 (dk_at dksX7_writes_4 6 rfl rfl)
theorem dX7_writes_103 : decode cX7_writes 103 = .ok (.iload 4, 2) := dk_21 4 (dk_at dksX7_writes_4 8 rfl rfl)
theorem dX7_writes_105 : decode cX7_writes 105 = .ok (.iadd, 1) := dk_96 (dk_at dksX7_writes_4 10 rfl rfl)
theorem dX7_writes_106 : decode cX7_writes 106 = .ok (.iaload, 1) := dk_46 (dk_at dksX7_writes_4 11 rfl rfl)
theorem dX7_writes_107 : decode cX7_writes 107 = .ok (.iconst (-1), 1) := dk_2 (dk_at dksX7_writes_4 12 rfl rfl)
theorem dX7_writes_108 : decode cX7_writes 108 = .ok (.if_icmp .eq 25, 3) := dk_159 0 25 (dk_at dksX7_writes_4 13 rfl rfl)
theorem dX7_writes_111 : decode cX7_writes 111 = .ok (.iload 6, 2) := dk_21 6 (dk_at dksX7_writes_4 16 rfl rfl)
theorem dX7_writes_113 : decode cX7_writes 113 = .ok (.bipush 10, 2) := dk_16 10 (dk_at dksX7_writes_4 18 rfl rfl)
theorem dX7_writes_115 : decode cX7_writes 115 = .ok (.if_icmp .gt 10, 3) := dk_163 0 10 (dk_at dksX7_writes_4 20 rfl rfl)
theorem dX7_writes_118 : decode cX7_writes 118 = .ok (.iload 6, 2) := dk_21 6 (dk_at dksX7_writes_5 0 rfl rfl)
theorem dX7_writes_120 : decode cX7_writes 120 = .ok (.bipush (-10), 2) := dk_16 246 (dk_at dksX7_writes_5 2 rfl rfl)
theorem dX7_writes_122 : decode cX7_writes 122 = .ok (.if_icmp .ge 11, 3) := dk_162 0 11 (dk_at dksX7_writes_5 4 rfl rfl)
theorem dX7_writes_125 : decode cX7_writes 125 = .ok (.fload 7, 2) := dk_23 7 (dk_at dksX7_writes_5 7 rfl rfl)
theorem dX7_writes_127 : decode cX7_writes 127 = .ok (.ldc 99, 2) := dk_18 99 (dk_at dksX7_writes_5 9 rfl rfl)
theorem dX7_writes_129 : decode cX7_writes 129 = .ok (.fmul, 1) := dk_106 (dk_at dksX7_writes_5 11 rfl rfl)
theorem dX7_writes_130 : decode cX7_writes 130 = .ok (.goto 5, 3) := dk_167 0 5 (dk_at dksX7_writes_5 12 rfl rfl)
theorem dX7_writes_133 : decode cX7_writes 133 = .ok (.fload 7, 2) := dk_23 7 (dk_at dksX7_writes_5 15 rfl rfl)
theorem dX7_writes_135 : decode cX7_writes 135 = .ok (.fastore, 1) := dk_81 (dk_at dksX7_writes_5 17 rfl rfl)
theorem dX7_writes_136 : decode cX7_writes 136 = .ok (.aload_n 0, 1) := dk_42 (dk_at dksX7_writes_5 18 rfl rfl)
theorem dX7_writes_137 : decode cX7_writes 137 = .ok (.getfield 7, 3) := dk_180 0 7 (dk_at dksX7_writes_5 19 rfl rfl)
theorem dX7_writes_140 : decode cX7_writes 140 = .ok (.bipush 126, 2) := dk_16 126 (dk_at dksX7_writes_5 22 rfl rfl)
theorem dX7_writes_142 : decode cX7_writes 142 = .ok (.iload 4, 2) := dk_21 4 (dk_at dksX7_writes_6 0 rfl rfl)
theorem dX7_writes_144 : decode cX7_writes 144 = .ok (.iadd, 1) := dk_96 (dk_at dksX7_writes_6 2 rfl rfl)
theorem dX7_writes_145 : decode cX7_writes 145 = .ok (.iload_n 3, 1) := dk_29 (dk_at dksX7_writes_6 3 rfl rfl)
theorem dX7_writes_146 : decode cX7_writes 146 = .ok (.iastore, 1) := dk_79 (dk_at dksX7_writes_6 4 rfl rfl)
theorem dX7_writes_147 : decode cX7_writes 147 = .ok (.aload_n 0, 1) := dk_42 (dk_at dksX7_writes_6 5 rfl rfl)
theorem dX7_writes_148 : decode cX7_writes 148 = .ok (.getfield 7, 3) := dk_180 0 7 (dk_at dksX7_writes_6 6 rfl rfl)
theorem dX7_writes_151 : decode cX7_writes 151 = .ok (.sipush 846, 3) := dk_17 3 78 (dk_at dksX7_writes_6 9 rfl rfl)
theorem dX7_writes_154 : decode cX7_writes 154 = .ok (.iload 4, 2) := dk_21 4 (dk_at dksX7_writes_6 12 rfl rfl)
theorem dX7_writes_156 : decode cX7_writes 156 = .ok (.iadd, 1) := dk_96 (dk_at dksX7_writes_6 14 rfl rfl)
theorem dX7_writes_157 : decode cX7_writes 157 = .ok (.iload 5, 2) := dk_21 5 (dk_at dksX7_writes_6 15 rfl rfl)
theorem dX7_writes_159 : decode cX7_writes 159 = .ok (.iastore, 1) := dk_79 (dk_at dksX7_writes_6 17 rfl rfl)
theorem dX7_writes_160 : decode cX7_writes 160 = .ok (.aload_n 0, 1) := dk_42 (dk_at dksX7_writes_6 18 rfl rfl)
theorem dX7_writes_161 : decode cX7_writes 161 = .ok (.iload_n 1, 1) := dk_27 (dk_at dksX7_writes_6 19 rfl rfl)
theorem dX7_writes_162 : decode cX7_writes 162 = .ok (.iload_n 2, 1) := dk_28 (dk_at dksX7_writes_6 20 rfl rfl)
theorem dX7_writes_163 : decode cX7_writes 163 = .ok (.invokevirtual 100, 3) := dk_182 0 100 (dk_at dksX7_writes_6 21 rfl rfl)
theorem dX7_writes_166 : decode cX7_writes 166 = .ok (.iload 5, 2) := dk_21 5 (dk_at dksX7_writes_7 0 rfl rfl)
theorem dX7_writes_168 : decode cX7_writes 168 = .ok (.ireturn, 1) := dk_172 (dk_at dksX7_writes_7 2 rfl rfl)
abbrev cX7_track : ByteArray := prog_13_method_12_code
def yX7_track : MethodName := ⟨RX7, "track", "(III)I"⟩
def dkwX7_track_0 : List UInt8 := [16, 40, 6, 26, 104, 27, 96, 104, 28, 96, 172]
abbrev dktX7_track_0 : List UInt8 := dkwX7_track_0 ++ []
theorem dksX7_track_0 : cX7_track.data.toList.drop 0 = dktX7_track_0 := by decide +kernel
theorem dX7_track_0 : decode cX7_track 0 = .ok (.bipush 40, 2) := dk_16 40 (dk_at dksX7_track_0 0 rfl rfl)
theorem dX7_track_2 : decode cX7_track 2 = .ok (.iconst 3, 1) := dk_6 (dk_at dksX7_track_0 2 rfl rfl)
theorem dX7_track_3 : decode cX7_track 3 = .ok (.iload_n 0, 1) := dk_26 (dk_at dksX7_track_0 3 rfl rfl)
theorem dX7_track_4 : decode cX7_track 4 = .ok (.imul, 1) := dk_104 (dk_at dksX7_track_0 4 rfl rfl)
theorem dX7_track_5 : decode cX7_track 5 = .ok (.iload_n 1, 1) := dk_27 (dk_at dksX7_track_0 5 rfl rfl)
theorem dX7_track_6 : decode cX7_track 6 = .ok (.iadd, 1) := dk_96 (dk_at dksX7_track_0 6 rfl rfl)
theorem dX7_track_7 : decode cX7_track 7 = .ok (.imul, 1) := dk_104 (dk_at dksX7_track_0 7 rfl rfl)
theorem dX7_track_8 : decode cX7_track 8 = .ok (.iload_n 2, 1) := dk_28 (dk_at dksX7_track_0 8 rfl rfl)
theorem dX7_track_9 : decode cX7_track 9 = .ok (.iadd, 1) := dk_96 (dk_at dksX7_track_0 9 rfl rfl)
theorem dX7_track_10 : decode cX7_track 10 = .ok (.ireturn, 1) := dk_172 (dk_at dksX7_track_0 10 rfl rfl)
abbrev cX7_place : ByteArray := prog_13_method_15_code
def yX7_place : MethodName := ⟨RX7, "place", "(IIII)I"⟩
def dkwX7_place_3 : List UInt8 := [3, 27, 6, 184, 0, 40, 96, 46, 100, 96, 172]
abbrev dktX7_place_3 : List UInt8 := dkwX7_place_3 ++ []
def dkwX7_place_2 : List UInt8 := [180, 0, 7, 16, 48, 27, 96, 46, 167, 0, 25, 42, 180, 0, 7, 16, 90, 29, 96, 46, 42, 180, 0, 7]
abbrev dktX7_place_2 : List UInt8 := dkwX7_place_2 ++ dktX7_place_3
def dkwX7_place_1 : List UInt8 := [29, 182, 0, 44, 46, 96, 54, 5, 21, 5, 42, 180, 0, 7, 16, 56, 27, 96, 46, 154, 0, 15, 42]
abbrev dktX7_place_1 : List UInt8 := dkwX7_place_1 ++ dktX7_place_2
def dkwX7_place_0 : List UInt8 := [16, 100, 21, 4, 104, 42, 180, 0, 7, 3, 27, 28, 184, 0, 40, 96, 46, 96, 42, 180, 0, 7, 42, 27]
abbrev dktX7_place_0 : List UInt8 := dkwX7_place_0 ++ dktX7_place_1
theorem dksX7_place_0 : cX7_place.data.toList.drop 0 = dktX7_place_0 := by decide +kernel
theorem dksX7_place_1 : cX7_place.data.toList.drop 24 = dktX7_place_1 := dk_seg dksX7_place_0 24 rfl rfl
theorem dksX7_place_2 : cX7_place.data.toList.drop 47 = dktX7_place_2 := dk_seg dksX7_place_1 23 rfl rfl
theorem dksX7_place_3 : cX7_place.data.toList.drop 71 = dktX7_place_3 := dk_seg dksX7_place_2 24 rfl rfl
theorem dX7_place_0 : decode cX7_place 0 = .ok (.bipush 100, 2) := dk_16 100 (dk_at dksX7_place_0 0 rfl rfl)
theorem dX7_place_2 : decode cX7_place 2 = .ok (.iload 4, 2) := dk_21 4 (dk_at dksX7_place_0 2 rfl rfl)
theorem dX7_place_4 : decode cX7_place 4 = .ok (.imul, 1) := dk_104 (dk_at dksX7_place_0 4 rfl rfl)
theorem dX7_place_5 : decode cX7_place 5 = .ok (.aload_n 0, 1) := dk_42 (dk_at dksX7_place_0 5 rfl rfl)
theorem dX7_place_6 : decode cX7_place 6 = .ok (.getfield 7, 3) := dk_180 0 7 (dk_at dksX7_place_0 6 rfl rfl)
theorem dX7_place_9 : decode cX7_place 9 = .ok (.iconst 0, 1) := dk_3 (dk_at dksX7_place_0 9 rfl rfl)
theorem dX7_place_10 : decode cX7_place 10 = .ok (.iload_n 1, 1) := dk_27 (dk_at dksX7_place_0 10 rfl rfl)
theorem dX7_place_11 : decode cX7_place 11 = .ok (.iload_n 2, 1) := dk_28 (dk_at dksX7_place_0 11 rfl rfl)
theorem dX7_place_12 : decode cX7_place 12 = .ok (.invokestatic 40, 3) := dk_184 0 40 (dk_at dksX7_place_0 12 rfl rfl)
theorem dX7_place_15 : decode cX7_place 15 = .ok (.iadd, 1) := dk_96 (dk_at dksX7_place_0 15 rfl rfl)
theorem dX7_place_16 : decode cX7_place 16 = .ok (.iaload, 1) := dk_46 (dk_at dksX7_place_0 16 rfl rfl)
theorem dX7_place_17 : decode cX7_place 17 = .ok (.iadd, 1) := dk_96 (dk_at dksX7_place_0 17 rfl rfl)
theorem dX7_place_18 : decode cX7_place 18 = .ok (.aload_n 0, 1) := dk_42 (dk_at dksX7_place_0 18 rfl rfl)
theorem dX7_place_19 : decode cX7_place 19 = .ok (.getfield 7, 3) := dk_180 0 7 (dk_at dksX7_place_0 19 rfl rfl)
theorem dX7_place_22 : decode cX7_place 22 = .ok (.aload_n 0, 1) := dk_42 (dk_at dksX7_place_0 22 rfl rfl)
theorem dX7_place_23 : decode cX7_place 23 = .ok (.iload_n 1, 1) := dk_27 (dk_at dksX7_place_0 23 rfl rfl)
theorem dX7_place_24 : decode cX7_place 24 = .ok (.iload_n 3, 1) := dk_29 (dk_at dksX7_place_1 0 rfl rfl)
theorem dX7_place_25 : decode cX7_place 25 = .ok (.invokevirtual 44, 3) := dk_182 0 44 (dk_at dksX7_place_1 1 rfl rfl)
theorem dX7_place_28 : decode cX7_place 28 = .ok (.iaload, 1) := dk_46 (dk_at dksX7_place_1 4 rfl rfl)
theorem dX7_place_29 : decode cX7_place 29 = .ok (.iadd, 1) := dk_96 (dk_at dksX7_place_1 5 rfl rfl)
theorem dX7_place_30 : decode cX7_place 30 = .ok (.istore 5, 2) := dk_54 5 (dk_at dksX7_place_1 6 rfl rfl)
theorem dX7_place_32 : decode cX7_place 32 = .ok (.iload 5, 2) := dk_21 5 (dk_at dksX7_place_1 8 rfl rfl)
theorem dX7_place_34 : decode cX7_place 34 = .ok (.aload_n 0, 1) := dk_42 (dk_at dksX7_place_1 10 rfl rfl)
theorem dX7_place_35 : decode cX7_place 35 = .ok (.getfield 7, 3) := dk_180 0 7 (dk_at dksX7_place_1 11 rfl rfl)
theorem dX7_place_38 : decode cX7_place 38 = .ok (.bipush 56, 2) := dk_16 56 (dk_at dksX7_place_1 14 rfl rfl)
theorem dX7_place_40 : decode cX7_place 40 = .ok (.iload_n 1, 1) := dk_27 (dk_at dksX7_place_1 16 rfl rfl)
theorem dX7_place_41 : decode cX7_place 41 = .ok (.iadd, 1) := dk_96 (dk_at dksX7_place_1 17 rfl rfl)
theorem dX7_place_42 : decode cX7_place 42 = .ok (.iaload, 1) := dk_46 (dk_at dksX7_place_1 18 rfl rfl)
theorem dX7_place_43 : decode cX7_place 43 = .ok (.ifCond .ne 15, 3) := dk_154 0 15 (dk_at dksX7_place_1 19 rfl rfl)
theorem dX7_place_46 : decode cX7_place 46 = .ok (.aload_n 0, 1) := dk_42 (dk_at dksX7_place_1 22 rfl rfl)
theorem dX7_place_47 : decode cX7_place 47 = .ok (.getfield 7, 3) := dk_180 0 7 (dk_at dksX7_place_2 0 rfl rfl)
theorem dX7_place_50 : decode cX7_place 50 = .ok (.bipush 48, 2) := dk_16 48 (dk_at dksX7_place_2 3 rfl rfl)
theorem dX7_place_52 : decode cX7_place 52 = .ok (.iload_n 1, 1) := dk_27 (dk_at dksX7_place_2 5 rfl rfl)
theorem dX7_place_53 : decode cX7_place 53 = .ok (.iadd, 1) := dk_96 (dk_at dksX7_place_2 6 rfl rfl)
theorem dX7_place_54 : decode cX7_place 54 = .ok (.iaload, 1) := dk_46 (dk_at dksX7_place_2 7 rfl rfl)
theorem dX7_place_55 : decode cX7_place 55 = .ok (.goto 25, 3) := dk_167 0 25 (dk_at dksX7_place_2 8 rfl rfl)
theorem dX7_place_58 : decode cX7_place 58 = .ok (.aload_n 0, 1) := dk_42 (dk_at dksX7_place_2 11 rfl rfl)
theorem dX7_place_59 : decode cX7_place 59 = .ok (.getfield 7, 3) := dk_180 0 7 (dk_at dksX7_place_2 12 rfl rfl)
theorem dX7_place_62 : decode cX7_place 62 = .ok (.bipush 90, 2) := dk_16 90 (dk_at dksX7_place_2 15 rfl rfl)
theorem dX7_place_64 : decode cX7_place 64 = .ok (.iload_n 3, 1) := dk_29 (dk_at dksX7_place_2 17 rfl rfl)
theorem dX7_place_65 : decode cX7_place 65 = .ok (.iadd, 1) := dk_96 (dk_at dksX7_place_2 18 rfl rfl)
theorem dX7_place_66 : decode cX7_place 66 = .ok (.iaload, 1) := dk_46 (dk_at dksX7_place_2 19 rfl rfl)
theorem dX7_place_67 : decode cX7_place 67 = .ok (.aload_n 0, 1) := dk_42 (dk_at dksX7_place_2 20 rfl rfl)
theorem dX7_place_68 : decode cX7_place 68 = .ok (.getfield 7, 3) := dk_180 0 7 (dk_at dksX7_place_2 21 rfl rfl)
theorem dX7_place_71 : decode cX7_place 71 = .ok (.iconst 0, 1) := dk_3 (dk_at dksX7_place_3 0 rfl rfl)
theorem dX7_place_72 : decode cX7_place 72 = .ok (.iload_n 1, 1) := dk_27 (dk_at dksX7_place_3 1 rfl rfl)
theorem dX7_place_73 : decode cX7_place 73 = .ok (.iconst 3, 1) := dk_6 (dk_at dksX7_place_3 2 rfl rfl)
theorem dX7_place_74 : decode cX7_place 74 = .ok (.invokestatic 40, 3) := dk_184 0 40 (dk_at dksX7_place_3 3 rfl rfl)
theorem dX7_place_77 : decode cX7_place 77 = .ok (.iadd, 1) := dk_96 (dk_at dksX7_place_3 6 rfl rfl)
theorem dX7_place_78 : decode cX7_place 78 = .ok (.iaload, 1) := dk_46 (dk_at dksX7_place_3 7 rfl rfl)
theorem dX7_place_79 : decode cX7_place 79 = .ok (.isub, 1) := dk_100 (dk_at dksX7_place_3 8 rfl rfl)
theorem dX7_place_80 : decode cX7_place 80 = .ok (.iadd, 1) := dk_96 (dk_at dksX7_place_3 9 rfl rfl)
theorem dX7_place_81 : decode cX7_place 81 = .ok (.ireturn, 1) := dk_172 (dk_at dksX7_place_3 10 rfl rfl)
abbrev cX7_rubs : ByteArray := prog_13_method_32_code
def yX7_rubs : MethodName := ⟨RX7, "rubs", "(II)V"⟩
def dkwX7_rubs_5 : List UInt8 := [42, 180, 0, 7, 16, 16, 21, 4, 96, 4, 79, 42, 180, 0, 7, 16, 32, 21, 4, 96, 3, 79, 177]
abbrev dktX7_rubs_5 : List UInt8 := dkwX7_rubs_5 ++ []
def dkwX7_rubs_4 : List UInt8 := [16, 32, 21, 4, 96, 92, 46, 4, 96, 79, 42, 180, 0, 7, 16, 32, 21, 4, 96, 46, 6, 160, 0, 25]
abbrev dktX7_rubs_4 : List UInt8 := dkwX7_rubs_4 ++ dktX7_rubs_5
def dkwX7_rubs_3 : List UInt8 := [167, 0, 70, 42, 180, 0, 7, 16, 96, 6, 29, 104, 96, 28, 96, 46, 4, 160, 0, 53, 42, 180, 0, 7]
abbrev dktX7_rubs_3 : List UInt8 := dkwX7_rubs_3 ++ dktX7_rubs_4
def dkwX7_rubs_2 : List UInt8 := [180, 0, 13, 29, 28, 42, 180, 0, 7, 16, 52, 27, 96, 46, 184, 0, 47, 92, 48, 13, 110, 81]
abbrev dktX7_rubs_2 : List UInt8 := dkwX7_rubs_2 ++ dktX7_rubs_3
def dkwX7_rubs_1 : List UInt8 := [21, 4, 96, 46, 4, 160, 0, 43, 42, 180, 0, 7, 16, 96, 6, 29, 104, 96, 28, 96, 4, 79, 42]
abbrev dktX7_rubs_1 : List UInt8 := dkwX7_rubs_1 ++ dktX7_rubs_2
def dkwX7_rubs_0 : List UInt8 := [42, 180, 0, 7, 16, 60, 27, 96, 46, 62, 27, 28, 184, 0, 40, 54, 4, 42, 180, 0, 7, 16, 16]
abbrev dktX7_rubs_0 : List UInt8 := dkwX7_rubs_0 ++ dktX7_rubs_1
theorem dksX7_rubs_0 : cX7_rubs.data.toList.drop 0 = dktX7_rubs_0 := by decide +kernel
theorem dksX7_rubs_1 : cX7_rubs.data.toList.drop 23 = dktX7_rubs_1 := dk_seg dksX7_rubs_0 23 rfl rfl
theorem dksX7_rubs_2 : cX7_rubs.data.toList.drop 46 = dktX7_rubs_2 := dk_seg dksX7_rubs_1 23 rfl rfl
theorem dksX7_rubs_3 : cX7_rubs.data.toList.drop 68 = dktX7_rubs_3 := dk_seg dksX7_rubs_2 22 rfl rfl
theorem dksX7_rubs_4 : cX7_rubs.data.toList.drop 92 = dktX7_rubs_4 := dk_seg dksX7_rubs_3 24 rfl rfl
theorem dksX7_rubs_5 : cX7_rubs.data.toList.drop 116 = dktX7_rubs_5 := dk_seg dksX7_rubs_4 24 rfl rfl
theorem dX7_rubs_0 : decode cX7_rubs 0 = .ok (.aload_n 0, 1) := dk_42 (dk_at dksX7_rubs_0 0 rfl rfl)
theorem dX7_rubs_1 : decode cX7_rubs 1 = .ok (.getfield 7, 3) := dk_180 0 7 (dk_at dksX7_rubs_0 1 rfl rfl)
theorem dX7_rubs_4 : decode cX7_rubs 4 = .ok (.bipush 60, 2) := dk_16 60 (dk_at dksX7_rubs_0 4 rfl rfl)
theorem dX7_rubs_6 : decode cX7_rubs 6 = .ok (.iload_n 1, 1) := dk_27 (dk_at dksX7_rubs_0 6 rfl rfl)
theorem dX7_rubs_7 : decode cX7_rubs 7 = .ok (.iadd, 1) := dk_96 (dk_at dksX7_rubs_0 7 rfl rfl)
theorem dX7_rubs_8 : decode cX7_rubs 8 = .ok (.iaload, 1) := dk_46 (dk_at dksX7_rubs_0 8 rfl rfl)
theorem dX7_rubs_9 : decode cX7_rubs 9 = .ok (.istore_n 3, 1) := dk_62 (dk_at dksX7_rubs_0 9 rfl rfl)
theorem dX7_rubs_10 : decode cX7_rubs 10 = .ok (.iload_n 1, 1) := dk_27 (dk_at dksX7_rubs_0 10 rfl rfl)
theorem dX7_rubs_11 : decode cX7_rubs 11 = .ok (.iload_n 2, 1) := dk_28 (dk_at dksX7_rubs_0 11 rfl rfl)
theorem dX7_rubs_12 : decode cX7_rubs 12 = .ok (.invokestatic 40, 3) := dk_184 0 40 (dk_at dksX7_rubs_0 12 rfl rfl)
theorem dX7_rubs_15 : decode cX7_rubs 15 = .ok (.istore 4, 2) := dk_54 4 (dk_at dksX7_rubs_0 15 rfl rfl)
theorem dX7_rubs_17 : decode cX7_rubs 17 = .ok (.aload_n 0, 1) := dk_42 (dk_at dksX7_rubs_0 17 rfl rfl)
theorem dX7_rubs_18 : decode cX7_rubs 18 = .ok (.getfield 7, 3) := dk_180 0 7 (dk_at dksX7_rubs_0 18 rfl rfl)
theorem dX7_rubs_21 : decode cX7_rubs 21 = .ok (.bipush 16, 2) := dk_16 16 (dk_at dksX7_rubs_0 21 rfl rfl)
theorem dX7_rubs_23 : decode cX7_rubs 23 = .ok (.iload 4, 2) := dk_21 4 (dk_at dksX7_rubs_1 0 rfl rfl)
theorem dX7_rubs_25 : decode cX7_rubs 25 = .ok (.iadd, 1) := dk_96 (dk_at dksX7_rubs_1 2 rfl rfl)
theorem dX7_rubs_26 : decode cX7_rubs 26 = .ok (.iaload, 1) := dk_46 (dk_at dksX7_rubs_1 3 rfl rfl)
theorem dX7_rubs_27 : decode cX7_rubs 27 = .ok (.iconst 1, 1) := dk_4 (dk_at dksX7_rubs_1 4 rfl rfl)
theorem dX7_rubs_28 : decode cX7_rubs 28 = .ok (.if_icmp .ne 43, 3) := dk_160 0 43 (dk_at dksX7_rubs_1 5 rfl rfl)
theorem dX7_rubs_31 : decode cX7_rubs 31 = .ok (.aload_n 0, 1) := dk_42 (dk_at dksX7_rubs_1 8 rfl rfl)
theorem dX7_rubs_32 : decode cX7_rubs 32 = .ok (.getfield 7, 3) := dk_180 0 7 (dk_at dksX7_rubs_1 9 rfl rfl)
theorem dX7_rubs_35 : decode cX7_rubs 35 = .ok (.bipush 96, 2) := dk_16 96 (dk_at dksX7_rubs_1 12 rfl rfl)
theorem dX7_rubs_37 : decode cX7_rubs 37 = .ok (.iconst 3, 1) := dk_6 (dk_at dksX7_rubs_1 14 rfl rfl)
theorem dX7_rubs_38 : decode cX7_rubs 38 = .ok (.iload_n 3, 1) := dk_29 (dk_at dksX7_rubs_1 15 rfl rfl)
theorem dX7_rubs_39 : decode cX7_rubs 39 = .ok (.imul, 1) := dk_104 (dk_at dksX7_rubs_1 16 rfl rfl)
theorem dX7_rubs_40 : decode cX7_rubs 40 = .ok (.iadd, 1) := dk_96 (dk_at dksX7_rubs_1 17 rfl rfl)
theorem dX7_rubs_41 : decode cX7_rubs 41 = .ok (.iload_n 2, 1) := dk_28 (dk_at dksX7_rubs_1 18 rfl rfl)
theorem dX7_rubs_42 : decode cX7_rubs 42 = .ok (.iadd, 1) := dk_96 (dk_at dksX7_rubs_1 19 rfl rfl)
theorem dX7_rubs_43 : decode cX7_rubs 43 = .ok (.iconst 1, 1) := dk_4 (dk_at dksX7_rubs_1 20 rfl rfl)
theorem dX7_rubs_44 : decode cX7_rubs 44 = .ok (.iastore, 1) := dk_79 (dk_at dksX7_rubs_1 21 rfl rfl)
theorem dX7_rubs_45 : decode cX7_rubs 45 = .ok (.aload_n 0, 1) := dk_42 (dk_at dksX7_rubs_1 22 rfl rfl)
theorem dX7_rubs_46 : decode cX7_rubs 46 = .ok (.getfield 13, 3) := dk_180 0 13 (dk_at dksX7_rubs_2 0 rfl rfl)
theorem dX7_rubs_49 : decode cX7_rubs 49 = .ok (.iload_n 3, 1) := dk_29 (dk_at dksX7_rubs_2 3 rfl rfl)
theorem dX7_rubs_50 : decode cX7_rubs 50 = .ok (.iload_n 2, 1) := dk_28 (dk_at dksX7_rubs_2 4 rfl rfl)
theorem dX7_rubs_51 : decode cX7_rubs 51 = .ok (.aload_n 0, 1) := dk_42 (dk_at dksX7_rubs_2 5 rfl rfl)
theorem dX7_rubs_52 : decode cX7_rubs 52 = .ok (.getfield 7, 3) := dk_180 0 7 (dk_at dksX7_rubs_2 6 rfl rfl)
theorem dX7_rubs_55 : decode cX7_rubs 55 = .ok (.bipush 52, 2) := dk_16 52 (dk_at dksX7_rubs_2 9 rfl rfl)
theorem dX7_rubs_57 : decode cX7_rubs 57 = .ok (.iload_n 1, 1) := dk_27 (dk_at dksX7_rubs_2 11 rfl rfl)
theorem dX7_rubs_58 : decode cX7_rubs 58 = .ok (.iadd, 1) := dk_96 (dk_at dksX7_rubs_2 12 rfl rfl)
theorem dX7_rubs_59 : decode cX7_rubs 59 = .ok (.iaload, 1) := dk_46 (dk_at dksX7_rubs_2 13 rfl rfl)
theorem dX7_rubs_60 : decode cX7_rubs 60 = .ok (.invokestatic 47, 3) := dk_184 0 47 (dk_at dksX7_rubs_2 14 rfl rfl)
theorem dX7_rubs_63 : decode cX7_rubs 63 = .ok (.dup2, 1) := dk_92 (dk_at dksX7_rubs_2 17 rfl rfl)
theorem dX7_rubs_64 : decode cX7_rubs 64 = .ok (.faload, 1) := dk_48 (dk_at dksX7_rubs_2 18 rfl rfl)
theorem dX7_rubs_65 : decode cX7_rubs 65 = .ok (.fconst 2, 1) := dk_13 (dk_at dksX7_rubs_2 19 rfl rfl)
theorem dX7_rubs_66 : decode cX7_rubs 66 = .ok (.fdiv, 1) := dk_110 (dk_at dksX7_rubs_2 20 rfl rfl)
theorem dX7_rubs_67 : decode cX7_rubs 67 = .ok (.fastore, 1) := dk_81 (dk_at dksX7_rubs_2 21 rfl rfl)
theorem dX7_rubs_68 : decode cX7_rubs 68 = .ok (.goto 70, 3) := dk_167 0 70 (dk_at dksX7_rubs_3 0 rfl rfl)
theorem dX7_rubs_71 : decode cX7_rubs 71 = .ok (.aload_n 0, 1) := dk_42 (dk_at dksX7_rubs_3 3 rfl rfl)
theorem dX7_rubs_72 : decode cX7_rubs 72 = .ok (.getfield 7, 3) := dk_180 0 7 (dk_at dksX7_rubs_3 4 rfl rfl)
theorem dX7_rubs_75 : decode cX7_rubs 75 = .ok (.bipush 96, 2) := dk_16 96 (dk_at dksX7_rubs_3 7 rfl rfl)
theorem dX7_rubs_77 : decode cX7_rubs 77 = .ok (.iconst 3, 1) := dk_6 (dk_at dksX7_rubs_3 9 rfl rfl)
theorem dX7_rubs_78 : decode cX7_rubs 78 = .ok (.iload_n 3, 1) := dk_29 (dk_at dksX7_rubs_3 10 rfl rfl)
theorem dX7_rubs_79 : decode cX7_rubs 79 = .ok (.imul, 1) := dk_104 (dk_at dksX7_rubs_3 11 rfl rfl)
theorem dX7_rubs_80 : decode cX7_rubs 80 = .ok (.iadd, 1) := dk_96 (dk_at dksX7_rubs_3 12 rfl rfl)
theorem dX7_rubs_81 : decode cX7_rubs 81 = .ok (.iload_n 2, 1) := dk_28 (dk_at dksX7_rubs_3 13 rfl rfl)
theorem dX7_rubs_82 : decode cX7_rubs 82 = .ok (.iadd, 1) := dk_96 (dk_at dksX7_rubs_3 14 rfl rfl)
theorem dX7_rubs_83 : decode cX7_rubs 83 = .ok (.iaload, 1) := dk_46 (dk_at dksX7_rubs_3 15 rfl rfl)
theorem dX7_rubs_84 : decode cX7_rubs 84 = .ok (.iconst 1, 1) := dk_4 (dk_at dksX7_rubs_3 16 rfl rfl)
theorem dX7_rubs_85 : decode cX7_rubs 85 = .ok (.if_icmp .ne 53, 3) := dk_160 0 53 (dk_at dksX7_rubs_3 17 rfl rfl)
theorem dX7_rubs_88 : decode cX7_rubs 88 = .ok (.aload_n 0, 1) := dk_42 (dk_at dksX7_rubs_3 20 rfl rfl)
theorem dX7_rubs_89 : decode cX7_rubs 89 = .ok (.getfield 7, 3) := dk_180 0 7 (dk_at dksX7_rubs_3 21 rfl rfl)
theorem dX7_rubs_92 : decode cX7_rubs 92 = .ok (.bipush 32, 2) := dk_16 32 (dk_at dksX7_rubs_4 0 rfl rfl)
theorem dX7_rubs_94 : decode cX7_rubs 94 = .ok (.iload 4, 2) := dk_21 4 (dk_at dksX7_rubs_4 2 rfl rfl)
theorem dX7_rubs_96 : decode cX7_rubs 96 = .ok (.iadd, 1) := dk_96 (dk_at dksX7_rubs_4 4 rfl rfl)
theorem dX7_rubs_97 : decode cX7_rubs 97 = .ok (.dup2, 1) := dk_92 (dk_at dksX7_rubs_4 5 rfl rfl)
theorem dX7_rubs_98 : decode cX7_rubs 98 = .ok (.iaload, 1) := dk_46 (dk_at dksX7_rubs_4 6 rfl rfl)
theorem dX7_rubs_99 : decode cX7_rubs 99 = .ok (.iconst 1, 1) := dk_4 (dk_at dksX7_rubs_4 7 rfl rfl)
theorem dX7_rubs_100 : decode cX7_rubs 100 = .ok (.iadd, 1) := dk_96 (dk_at dksX7_rubs_4 8 rfl rfl)
theorem dX7_rubs_101 : decode cX7_rubs 101 = .ok (.iastore, 1) := dk_79 (dk_at dksX7_rubs_4 9 rfl rfl)
theorem dX7_rubs_102 : decode cX7_rubs 102 = .ok (.aload_n 0, 1) := dk_42 (dk_at dksX7_rubs_4 10 rfl rfl)
theorem dX7_rubs_103 : decode cX7_rubs 103 = .ok (.getfield 7, 3) := dk_180 0 7 (dk_at dksX7_rubs_4 11 rfl rfl)
theorem dX7_rubs_106 : decode cX7_rubs 106 = .ok (.bipush 32, 2) := dk_16 32 (dk_at dksX7_rubs_4 14 rfl rfl)
theorem dX7_rubs_108 : decode cX7_rubs 108 = .ok (.iload 4, 2) := dk_21 4 (dk_at dksX7_rubs_4 16 rfl rfl)
theorem dX7_rubs_110 : decode cX7_rubs 110 = .ok (.iadd, 1) := dk_96 (dk_at dksX7_rubs_4 18 rfl rfl)
theorem dX7_rubs_111 : decode cX7_rubs 111 = .ok (.iaload, 1) := dk_46 (dk_at dksX7_rubs_4 19 rfl rfl)
theorem dX7_rubs_112 : decode cX7_rubs 112 = .ok (.iconst 3, 1) := dk_6 (dk_at dksX7_rubs_4 20 rfl rfl)
theorem dX7_rubs_113 : decode cX7_rubs 113 = .ok (.if_icmp .ne 25, 3) := dk_160 0 25 (dk_at dksX7_rubs_4 21 rfl rfl)
theorem dX7_rubs_116 : decode cX7_rubs 116 = .ok (.aload_n 0, 1) := dk_42 (dk_at dksX7_rubs_5 0 rfl rfl)
theorem dX7_rubs_117 : decode cX7_rubs 117 = .ok (.getfield 7, 3) := dk_180 0 7 (dk_at dksX7_rubs_5 1 rfl rfl)
theorem dX7_rubs_120 : decode cX7_rubs 120 = .ok (.bipush 16, 2) := dk_16 16 (dk_at dksX7_rubs_5 4 rfl rfl)
theorem dX7_rubs_122 : decode cX7_rubs 122 = .ok (.iload 4, 2) := dk_21 4 (dk_at dksX7_rubs_5 6 rfl rfl)
theorem dX7_rubs_124 : decode cX7_rubs 124 = .ok (.iadd, 1) := dk_96 (dk_at dksX7_rubs_5 8 rfl rfl)
theorem dX7_rubs_125 : decode cX7_rubs 125 = .ok (.iconst 1, 1) := dk_4 (dk_at dksX7_rubs_5 9 rfl rfl)
theorem dX7_rubs_126 : decode cX7_rubs 126 = .ok (.iastore, 1) := dk_79 (dk_at dksX7_rubs_5 10 rfl rfl)
theorem dX7_rubs_127 : decode cX7_rubs 127 = .ok (.aload_n 0, 1) := dk_42 (dk_at dksX7_rubs_5 11 rfl rfl)
theorem dX7_rubs_128 : decode cX7_rubs 128 = .ok (.getfield 7, 3) := dk_180 0 7 (dk_at dksX7_rubs_5 12 rfl rfl)
theorem dX7_rubs_131 : decode cX7_rubs 131 = .ok (.bipush 32, 2) := dk_16 32 (dk_at dksX7_rubs_5 15 rfl rfl)
theorem dX7_rubs_133 : decode cX7_rubs 133 = .ok (.iload 4, 2) := dk_21 4 (dk_at dksX7_rubs_5 17 rfl rfl)
theorem dX7_rubs_135 : decode cX7_rubs 135 = .ok (.iadd, 1) := dk_96 (dk_at dksX7_rubs_5 19 rfl rfl)
theorem dX7_rubs_136 : decode cX7_rubs 136 = .ok (.iconst 0, 1) := dk_3 (dk_at dksX7_rubs_5 20 rfl rfl)
theorem dX7_rubs_137 : decode cX7_rubs 137 = .ok (.iastore, 1) := dk_79 (dk_at dksX7_rubs_5 21 rfl rfl)
theorem dX7_rubs_138 : decode cX7_rubs 138 = .ok (.return_, 1) := dk_177 (dk_at dksX7_rubs_5 22 rfl rfl)
abbrev cX7_read : ByteArray := prog_13_method_45_code
def yX7_read : MethodName := ⟨RX7, "read", "(II)I"⟩
def dkwX7_read_1 : List UInt8 := [182, 0, 68, 42, 27, 28, 182, 0, 135, 172]
abbrev dktX7_read_1 : List UInt8 := dkwX7_read_1 ++ []
def dkwX7_read_0 : List UInt8 := [42, 3, 181, 0, 32, 42, 27, 28, 182, 0, 132, 62, 29, 158, 0, 9, 42, 29, 182, 0, 78, 172, 42]
abbrev dktX7_read_0 : List UInt8 := dkwX7_read_0 ++ dktX7_read_1
theorem dksX7_read_0 : cX7_read.data.toList.drop 0 = dktX7_read_0 := by decide +kernel
theorem dksX7_read_1 : cX7_read.data.toList.drop 23 = dktX7_read_1 := dk_seg dksX7_read_0 23 rfl rfl
theorem dX7_read_0 : decode cX7_read 0 = .ok (.aload_n 0, 1) := dk_42 (dk_at dksX7_read_0 0 rfl rfl)
theorem dX7_read_1 : decode cX7_read 1 = .ok (.iconst 0, 1) := dk_3 (dk_at dksX7_read_0 1 rfl rfl)
theorem dX7_read_2 : decode cX7_read 2 = .ok (.putfield 32, 3) := dk_181 0 32 (dk_at dksX7_read_0 2 rfl rfl)
theorem dX7_read_5 : decode cX7_read 5 = .ok (.aload_n 0, 1) := dk_42 (dk_at dksX7_read_0 5 rfl rfl)
theorem dX7_read_6 : decode cX7_read 6 = .ok (.iload_n 1, 1) := dk_27 (dk_at dksX7_read_0 6 rfl rfl)
theorem dX7_read_7 : decode cX7_read 7 = .ok (.iload_n 2, 1) := dk_28 (dk_at dksX7_read_0 7 rfl rfl)
theorem dX7_read_8 : decode cX7_read 8 = .ok (.invokevirtual 132, 3) := dk_182 0 132 (dk_at dksX7_read_0 8 rfl rfl)
theorem dX7_read_11 : decode cX7_read 11 = .ok (.istore_n 3, 1) := dk_62 (dk_at dksX7_read_0 11 rfl rfl)
theorem dX7_read_12 : decode cX7_read 12 = .ok (.iload_n 3, 1) := dk_29 (dk_at dksX7_read_0 12 rfl rfl)
theorem dX7_read_13 : decode cX7_read 13 = .ok (.ifCond .le 9, 3) := dk_158 0 9 (dk_at dksX7_read_0 13 rfl rfl)
theorem dX7_read_16 : decode cX7_read 16 = .ok (.aload_n 0, 1) := dk_42 (dk_at dksX7_read_0 16 rfl rfl)
theorem dX7_read_17 : decode cX7_read 17 = .ok (.iload_n 3, 1) := dk_29 (dk_at dksX7_read_0 17 rfl rfl)
theorem dX7_read_18 : decode cX7_read 18 = .ok (.invokevirtual 78, 3) := dk_182 0 78 (dk_at dksX7_read_0 18 rfl rfl)
theorem dX7_read_21 : decode cX7_read 21 = .ok (.ireturn, 1) := dk_172 (dk_at dksX7_read_0 21 rfl rfl)
theorem dX7_read_22 : decode cX7_read 22 = .ok (.aload_n 0, 1) := dk_42 (dk_at dksX7_read_0 22 rfl rfl)
theorem dX7_read_23 : decode cX7_read 23 = .ok (.invokevirtual 68, 3) := dk_182 0 68 (dk_at dksX7_read_1 0 rfl rfl)
theorem dX7_read_26 : decode cX7_read 26 = .ok (.aload_n 0, 1) := dk_42 (dk_at dksX7_read_1 3 rfl rfl)
theorem dX7_read_27 : decode cX7_read 27 = .ok (.iload_n 1, 1) := dk_27 (dk_at dksX7_read_1 4 rfl rfl)
theorem dX7_read_28 : decode cX7_read 28 = .ok (.iload_n 2, 1) := dk_28 (dk_at dksX7_read_1 5 rfl rfl)
theorem dX7_read_29 : decode cX7_read 29 = .ok (.invokevirtual 135, 3) := dk_182 0 135 (dk_at dksX7_read_1 6 rfl rfl)
theorem dX7_read_32 : decode cX7_read 32 = .ok (.ireturn, 1) := dk_172 (dk_at dksX7_read_1 9 rfl rfl)
abbrev cX7_readRefusal : ByteArray := prog_13_method_27_code
def yX7_readRefusal : MethodName := ⟨RX7, "readRefusal", "(II)I"⟩
def dkwX7_readRefusal_0 : List UInt8 := [27, 184, 0, 71, 153, 0, 10, 28, 184, 0, 96, 154, 0, 7, 4, 167, 0, 8, 42, 27, 182, 0, 93, 172]
abbrev dktX7_readRefusal_0 : List UInt8 := dkwX7_readRefusal_0 ++ []
theorem dksX7_readRefusal_0 : cX7_readRefusal.data.toList.drop 0 = dktX7_readRefusal_0 := by decide +kernel
theorem dX7_readRefusal_0 : decode cX7_readRefusal 0 = .ok (.iload_n 1, 1) := dk_27 (dk_at dksX7_readRefusal_0 0 rfl rfl)
theorem dX7_readRefusal_1 : decode cX7_readRefusal 1 = .ok (.invokestatic 71, 3) := dk_184 0 71 (dk_at dksX7_readRefusal_0 1 rfl rfl)
theorem dX7_readRefusal_4 : decode cX7_readRefusal 4 = .ok (.ifCond .eq 10, 3) := dk_153 0 10 (dk_at dksX7_readRefusal_0 4 rfl rfl)
theorem dX7_readRefusal_7 : decode cX7_readRefusal 7 = .ok (.iload_n 2, 1) := dk_28 (dk_at dksX7_readRefusal_0 7 rfl rfl)
theorem dX7_readRefusal_8 : decode cX7_readRefusal 8 = .ok (.invokestatic 96, 3) := dk_184 0 96 (dk_at dksX7_readRefusal_0 8 rfl rfl)
theorem dX7_readRefusal_11 : decode cX7_readRefusal 11 = .ok (.ifCond .ne 7, 3) := dk_154 0 7 (dk_at dksX7_readRefusal_0 11 rfl rfl)
theorem dX7_readRefusal_14 : decode cX7_readRefusal 14 = .ok (.iconst 1, 1) := dk_4 (dk_at dksX7_readRefusal_0 14 rfl rfl)
theorem dX7_readRefusal_15 : decode cX7_readRefusal 15 = .ok (.goto 8, 3) := dk_167 0 8 (dk_at dksX7_readRefusal_0 15 rfl rfl)
theorem dX7_readRefusal_18 : decode cX7_readRefusal 18 = .ok (.aload_n 0, 1) := dk_42 (dk_at dksX7_readRefusal_0 18 rfl rfl)
theorem dX7_readRefusal_19 : decode cX7_readRefusal 19 = .ok (.iload_n 1, 1) := dk_27 (dk_at dksX7_readRefusal_0 19 rfl rfl)
theorem dX7_readRefusal_20 : decode cX7_readRefusal 20 = .ok (.invokevirtual 93, 3) := dk_182 0 93 (dk_at dksX7_readRefusal_0 20 rfl rfl)
theorem dX7_readRefusal_23 : decode cX7_readRefusal 23 = .ok (.ireturn, 1) := dk_172 (dk_at dksX7_readRefusal_0 23 rfl rfl)
abbrev cX7_readsNow : ByteArray := prog_13_method_34_code
def yX7_readsNow : MethodName := ⟨RX7, "readsNow", "(II)I"⟩
def dkwX7_readsNow_8 : List UInt8 := [16, 216, 167, 0, 5, 21, 7, 79, 42, 27, 28, 182, 0, 100, 21, 5, 172]
abbrev dktX7_readsNow_8 : List UInt8 := dkwX7_readsNow_8 ++ []
def dkwX7_readsNow_7 : List UInt8 := [27, 29, 182, 0, 44, 21, 7, 16, 40, 164, 0, 8, 16, 40, 167, 0, 17, 21, 7, 16, 216, 162, 0, 8]
abbrev dktX7_readsNow_7 : List UInt8 := dkwX7_readsNow_7 ++ dktX7_readsNow_8
def dkwX7_readsNow_6 : List UInt8 := [42, 180, 0, 7, 42, 27, 29, 182, 0, 44, 46, 21, 4, 184, 0, 56, 96, 54, 7, 42, 180, 0, 7, 42]
abbrev dktX7_readsNow_6 : List UInt8 := dkwX7_readsNow_6 ++ dktX7_readsNow_7
def dkwX7_readsNow_5 : List UInt8 := [46, 21, 6, 96, 79, 42, 180, 0, 7, 16, 120, 29, 96, 92, 46, 21, 6, 96, 79, 21, 4, 158, 0, 59]
abbrev dktX7_readsNow_5 : List UInt8 := dkwX7_readsNow_5 ++ dktX7_readsNow_6
def dkwX7_readsNow_4 : List UInt8 := [160, 0, 8, 16, 115, 167, 0, 5, 16, 114, 92, 46, 4, 96, 79, 42, 180, 0, 7, 16, 116, 27, 96, 92]
abbrev dktX7_readsNow_4 : List UInt8 := dkwX7_readsNow_4 ++ dktX7_readsNow_5
def dkwX7_readsNow_3 : List UInt8 := [180, 0, 7, 16, 88, 46, 104, 4, 96, 167, 0, 5, 21, 4, 54, 6, 42, 180, 0, 7, 21, 4, 2]
abbrev dktX7_readsNow_3 : List UInt8 := dkwX7_readsNow_3 ++ dktX7_readsNow_4
def dkwX7_readsNow_2 : List UInt8 := [180, 0, 7, 16, 52, 27, 96, 46, 184, 0, 47, 96, 46, 54, 5, 21, 4, 2, 160, 0, 17, 5, 42]
abbrev dktX7_readsNow_2 : List UInt8 := dkwX7_readsNow_2 ++ dktX7_readsNow_3
def dkwX7_readsNow_1 : List UInt8 := [182, 0, 104, 54, 4, 21, 4, 2, 160, 0, 7, 2, 167, 0, 25, 42, 180, 0, 7, 16, 126, 29, 28, 42]
abbrev dktX7_readsNow_1 : List UInt8 := dkwX7_readsNow_1 ++ dktX7_readsNow_2
def dkwX7_readsNow_0 : List UInt8 := [42, 180, 0, 7, 16, 60, 27, 96, 46, 62, 42, 27, 28, 29, 42, 180, 0, 7, 16, 52, 27, 96, 46]
abbrev dktX7_readsNow_0 : List UInt8 := dkwX7_readsNow_0 ++ dktX7_readsNow_1
theorem dksX7_readsNow_0 : cX7_readsNow.data.toList.drop 0 = dktX7_readsNow_0 := by decide +kernel
theorem dksX7_readsNow_1 : cX7_readsNow.data.toList.drop 23 = dktX7_readsNow_1 := dk_seg dksX7_readsNow_0 23 rfl rfl
theorem dksX7_readsNow_2 : cX7_readsNow.data.toList.drop 47 = dktX7_readsNow_2 := dk_seg dksX7_readsNow_1 24 rfl rfl
theorem dksX7_readsNow_3 : cX7_readsNow.data.toList.drop 70 = dktX7_readsNow_3 := dk_seg dksX7_readsNow_2 23 rfl rfl
theorem dksX7_readsNow_4 : cX7_readsNow.data.toList.drop 93 = dktX7_readsNow_4 := dk_seg dksX7_readsNow_3 23 rfl rfl
theorem dksX7_readsNow_5 : cX7_readsNow.data.toList.drop 117 = dktX7_readsNow_5 := dk_seg dksX7_readsNow_4 24 rfl rfl
theorem dksX7_readsNow_6 : cX7_readsNow.data.toList.drop 141 = dktX7_readsNow_6 := dk_seg dksX7_readsNow_5 24 rfl rfl
theorem dksX7_readsNow_7 : cX7_readsNow.data.toList.drop 165 = dktX7_readsNow_7 := dk_seg dksX7_readsNow_6 24 rfl rfl
theorem dksX7_readsNow_8 : cX7_readsNow.data.toList.drop 189 = dktX7_readsNow_8 := dk_seg dksX7_readsNow_7 24 rfl rfl
theorem dX7_readsNow_0 : decode cX7_readsNow 0 = .ok (.aload_n 0, 1) := dk_42 (dk_at dksX7_readsNow_0 0 rfl rfl)
theorem dX7_readsNow_1 : decode cX7_readsNow 1 = .ok (.getfield 7, 3) := dk_180 0 7 (dk_at dksX7_readsNow_0 1 rfl rfl)
theorem dX7_readsNow_4 : decode cX7_readsNow 4 = .ok (.bipush 60, 2) := dk_16 60 (dk_at dksX7_readsNow_0 4 rfl rfl)
theorem dX7_readsNow_6 : decode cX7_readsNow 6 = .ok (.iload_n 1, 1) := dk_27 (dk_at dksX7_readsNow_0 6 rfl rfl)
theorem dX7_readsNow_7 : decode cX7_readsNow 7 = .ok (.iadd, 1) := dk_96 (dk_at dksX7_readsNow_0 7 rfl rfl)
theorem dX7_readsNow_8 : decode cX7_readsNow 8 = .ok (.iaload, 1) := dk_46 (dk_at dksX7_readsNow_0 8 rfl rfl)
theorem dX7_readsNow_9 : decode cX7_readsNow 9 = .ok (.istore_n 3, 1) := dk_62 (dk_at dksX7_readsNow_0 9 rfl rfl)
theorem dX7_readsNow_10 : decode cX7_readsNow 10 = .ok (.aload_n 0, 1) := dk_42 (dk_at dksX7_readsNow_0 10 rfl rfl)
theorem dX7_readsNow_11 : decode cX7_readsNow 11 = .ok (.iload_n 1, 1) := dk_27 (dk_at dksX7_readsNow_0 11 rfl rfl)
theorem dX7_readsNow_12 : decode cX7_readsNow 12 = .ok (.iload_n 2, 1) := dk_28 (dk_at dksX7_readsNow_0 12 rfl rfl)
theorem dX7_readsNow_13 : decode cX7_readsNow 13 = .ok (.iload_n 3, 1) := dk_29 (dk_at dksX7_readsNow_0 13 rfl rfl)
theorem dX7_readsNow_14 : decode cX7_readsNow 14 = .ok (.aload_n 0, 1) := dk_42 (dk_at dksX7_readsNow_0 14 rfl rfl)
theorem dX7_readsNow_15 : decode cX7_readsNow 15 = .ok (.getfield 7, 3) := dk_180 0 7 (dk_at dksX7_readsNow_0 15 rfl rfl)
theorem dX7_readsNow_18 : decode cX7_readsNow 18 = .ok (.bipush 52, 2) := dk_16 52 (dk_at dksX7_readsNow_0 18 rfl rfl)
theorem dX7_readsNow_20 : decode cX7_readsNow 20 = .ok (.iload_n 1, 1) := dk_27 (dk_at dksX7_readsNow_0 20 rfl rfl)
theorem dX7_readsNow_21 : decode cX7_readsNow 21 = .ok (.iadd, 1) := dk_96 (dk_at dksX7_readsNow_0 21 rfl rfl)
theorem dX7_readsNow_22 : decode cX7_readsNow 22 = .ok (.iaload, 1) := dk_46 (dk_at dksX7_readsNow_0 22 rfl rfl)
theorem dX7_readsNow_23 : decode cX7_readsNow 23 = .ok (.invokevirtual 104, 3) := dk_182 0 104 (dk_at dksX7_readsNow_1 0 rfl rfl)
theorem dX7_readsNow_26 : decode cX7_readsNow 26 = .ok (.istore 4, 2) := dk_54 4 (dk_at dksX7_readsNow_1 3 rfl rfl)
theorem dX7_readsNow_28 : decode cX7_readsNow 28 = .ok (.iload 4, 2) := dk_21 4 (dk_at dksX7_readsNow_1 5 rfl rfl)
theorem dX7_readsNow_30 : decode cX7_readsNow 30 = .ok (.iconst (-1), 1) := dk_2 (dk_at dksX7_readsNow_1 7 rfl rfl)
theorem dX7_readsNow_31 : decode cX7_readsNow 31 = .ok (.if_icmp .ne 7, 3) := dk_160 0 7 (dk_at dksX7_readsNow_1 8 rfl rfl)
theorem dX7_readsNow_34 : decode cX7_readsNow 34 = .ok (.iconst (-1), 1) := dk_2 (dk_at dksX7_readsNow_1 11 rfl rfl)
theorem dX7_readsNow_35 : decode cX7_readsNow 35 = .ok (.goto 25, 3) := dk_167 0 25 (dk_at dksX7_readsNow_1 12 rfl rfl)
theorem dX7_readsNow_38 : decode cX7_readsNow 38 = .ok (.aload_n 0, 1) := dk_42 (dk_at dksX7_readsNow_1 15 rfl rfl)
theorem dX7_readsNow_39 : decode cX7_readsNow 39 = .ok (.getfield 7, 3) := dk_180 0 7 (dk_at dksX7_readsNow_1 16 rfl rfl)
theorem dX7_readsNow_42 : decode cX7_readsNow 42 = .ok (.bipush 126, 2) := dk_16 126 (dk_at dksX7_readsNow_1 19 rfl rfl)
theorem dX7_readsNow_44 : decode cX7_readsNow 44 = .ok (.iload_n 3, 1) := dk_29 (dk_at dksX7_readsNow_1 21 rfl rfl)
theorem dX7_readsNow_45 : decode cX7_readsNow 45 = .ok (.iload_n 2, 1) := dk_28 (dk_at dksX7_readsNow_1 22 rfl rfl)
theorem dX7_readsNow_46 : decode cX7_readsNow 46 = .ok (.aload_n 0, 1) := dk_42 (dk_at dksX7_readsNow_1 23 rfl rfl)
theorem dX7_readsNow_47 : decode cX7_readsNow 47 = .ok (.getfield 7, 3) := dk_180 0 7 (dk_at dksX7_readsNow_2 0 rfl rfl)
theorem dX7_readsNow_50 : decode cX7_readsNow 50 = .ok (.bipush 52, 2) := dk_16 52 (dk_at dksX7_readsNow_2 3 rfl rfl)
theorem dX7_readsNow_52 : decode cX7_readsNow 52 = .ok (.iload_n 1, 1) := dk_27 (dk_at dksX7_readsNow_2 5 rfl rfl)
theorem dX7_readsNow_53 : decode cX7_readsNow 53 = .ok (.iadd, 1) := dk_96 (dk_at dksX7_readsNow_2 6 rfl rfl)
theorem dX7_readsNow_54 : decode cX7_readsNow 54 = .ok (.iaload, 1) := dk_46 (dk_at dksX7_readsNow_2 7 rfl rfl)
theorem dX7_readsNow_55 : decode cX7_readsNow 55 = .ok (.invokestatic 47, 3) := dk_184 0 47 (dk_at dksX7_readsNow_2 8 rfl rfl)
theorem dX7_readsNow_58 : decode cX7_readsNow 58 = .ok (.iadd, 1) := dk_96 (dk_at dksX7_readsNow_2 11 rfl rfl)
theorem dX7_readsNow_59 : decode cX7_readsNow 59 = .ok (.iaload, 1) := dk_46 (dk_at dksX7_readsNow_2 12 rfl rfl)
theorem dX7_readsNow_60 : decode cX7_readsNow 60 = .ok (.istore 5, 2) := dk_54 5 (dk_at dksX7_readsNow_2 13 rfl rfl)
theorem dX7_readsNow_62 : decode cX7_readsNow 62 = .ok (.iload 4, 2) := dk_21 4 (dk_at dksX7_readsNow_2 15 rfl rfl)
theorem dX7_readsNow_64 : decode cX7_readsNow 64 = .ok (.iconst (-1), 1) := dk_2 (dk_at dksX7_readsNow_2 17 rfl rfl)
theorem dX7_readsNow_65 : decode cX7_readsNow 65 = .ok (.if_icmp .ne 17, 3) := dk_160 0 17 (dk_at dksX7_readsNow_2 18 rfl rfl)
theorem dX7_readsNow_68 : decode cX7_readsNow 68 = .ok (.iconst 2, 1) := dk_5 (dk_at dksX7_readsNow_2 21 rfl rfl)
theorem dX7_readsNow_69 : decode cX7_readsNow 69 = .ok (.aload_n 0, 1) := dk_42 (dk_at dksX7_readsNow_2 22 rfl rfl)
theorem dX7_readsNow_70 : decode cX7_readsNow 70 = .ok (.getfield 7, 3) := dk_180 0 7 (dk_at dksX7_readsNow_3 0 rfl rfl)
theorem dX7_readsNow_73 : decode cX7_readsNow 73 = .ok (.bipush 88, 2) := dk_16 88 (dk_at dksX7_readsNow_3 3 rfl rfl)
theorem dX7_readsNow_75 : decode cX7_readsNow 75 = .ok (.iaload, 1) := dk_46 (dk_at dksX7_readsNow_3 5 rfl rfl)
theorem dX7_readsNow_76 : decode cX7_readsNow 76 = .ok (.imul, 1) := dk_104 (dk_at dksX7_readsNow_3 6 rfl rfl)
theorem dX7_readsNow_77 : decode cX7_readsNow 77 = .ok (.iconst 1, 1) := dk_4 (dk_at dksX7_readsNow_3 7 rfl rfl)
theorem dX7_readsNow_78 : decode cX7_readsNow 78 = .ok (.iadd, 1) := dk_96 (dk_at dksX7_readsNow_3 8 rfl rfl)
theorem dX7_readsNow_79 : decode cX7_readsNow 79 = .ok (.goto 5, 3) := dk_167 0 5 (dk_at dksX7_readsNow_3 9 rfl rfl)
theorem dX7_readsNow_82 : decode cX7_readsNow 82 = .ok (.iload 4, 2) := dk_21 4 (dk_at dksX7_readsNow_3 12 rfl rfl)
theorem dX7_readsNow_84 : decode cX7_readsNow 84 = .ok (.istore 6, 2) := dk_54 6 (dk_at dksX7_readsNow_3 14 rfl rfl)
theorem dX7_readsNow_86 : decode cX7_readsNow 86 = .ok (.aload_n 0, 1) := dk_42 (dk_at dksX7_readsNow_3 16 rfl rfl)
theorem dX7_readsNow_87 : decode cX7_readsNow 87 = .ok (.getfield 7, 3) := dk_180 0 7 (dk_at dksX7_readsNow_3 17 rfl rfl)
theorem dX7_readsNow_90 : decode cX7_readsNow 90 = .ok (.iload 4, 2) := dk_21 4 (dk_at dksX7_readsNow_3 20 rfl rfl)
theorem dX7_readsNow_92 : decode cX7_readsNow 92 = .ok (.iconst (-1), 1) := dk_2 (dk_at dksX7_readsNow_3 22 rfl rfl)
theorem dX7_readsNow_93 : decode cX7_readsNow 93 = .ok (.if_icmp .ne 8, 3) := dk_160 0 8 (dk_at dksX7_readsNow_4 0 rfl rfl)
theorem dX7_readsNow_96 : decode cX7_readsNow 96 = .ok (.bipush 115, 2) := dk_16 115 (dk_at dksX7_readsNow_4 3 rfl rfl)
theorem dX7_readsNow_98 : decode cX7_readsNow 98 = .ok (.goto 5, 3) := dk_167 0 5 (dk_at dksX7_readsNow_4 5 rfl rfl)
theorem dX7_readsNow_101 : decode cX7_readsNow 101 = .ok (.bipush 114, 2) := dk_16 114 (dk_at dksX7_readsNow_4 8 rfl rfl)
theorem dX7_readsNow_103 : decode cX7_readsNow 103 = .ok (.dup2, 1) := dk_92 (dk_at dksX7_readsNow_4 10 rfl rfl)
theorem dX7_readsNow_104 : decode cX7_readsNow 104 = .ok (.iaload, 1) := dk_46 (dk_at dksX7_readsNow_4 11 rfl rfl)
theorem dX7_readsNow_105 : decode cX7_readsNow 105 = .ok (.iconst 1, 1) := dk_4 (dk_at dksX7_readsNow_4 12 rfl rfl)
theorem dX7_readsNow_106 : decode cX7_readsNow 106 = .ok (.iadd, 1) := dk_96 (dk_at dksX7_readsNow_4 13 rfl rfl)
theorem dX7_readsNow_107 : decode cX7_readsNow 107 = .ok (.iastore, 1) := dk_79 (dk_at dksX7_readsNow_4 14 rfl rfl)
theorem dX7_readsNow_108 : decode cX7_readsNow 108 = .ok (.aload_n 0, 1) := dk_42 (dk_at dksX7_readsNow_4 15 rfl rfl)
theorem dX7_readsNow_109 : decode cX7_readsNow 109 = .ok (.getfield 7, 3) := dk_180 0 7 (dk_at dksX7_readsNow_4 16 rfl rfl)
theorem dX7_readsNow_112 : decode cX7_readsNow 112 = .ok (.bipush 116, 2) := dk_16 116 (dk_at dksX7_readsNow_4 19 rfl rfl)
theorem dX7_readsNow_114 : decode cX7_readsNow 114 = .ok (.iload_n 1, 1) := dk_27 (dk_at dksX7_readsNow_4 21 rfl rfl)
theorem dX7_readsNow_115 : decode cX7_readsNow 115 = .ok (.iadd, 1) := dk_96 (dk_at dksX7_readsNow_4 22 rfl rfl)
theorem dX7_readsNow_116 : decode cX7_readsNow 116 = .ok (.dup2, 1) := dk_92 (dk_at dksX7_readsNow_4 23 rfl rfl)
theorem dX7_readsNow_117 : decode cX7_readsNow 117 = .ok (.iaload, 1) := dk_46 (dk_at dksX7_readsNow_5 0 rfl rfl)
theorem dX7_readsNow_118 : decode cX7_readsNow 118 = .ok (.iload 6, 2) := dk_21 6 (dk_at dksX7_readsNow_5 1 rfl rfl)
theorem dX7_readsNow_120 : decode cX7_readsNow 120 = .ok (.iadd, 1) := dk_96 (dk_at dksX7_readsNow_5 3 rfl rfl)
theorem dX7_readsNow_121 : decode cX7_readsNow 121 = .ok (.iastore, 1) := dk_79 (dk_at dksX7_readsNow_5 4 rfl rfl)
theorem dX7_readsNow_122 : decode cX7_readsNow 122 = .ok (.aload_n 0, 1) := dk_42 (dk_at dksX7_readsNow_5 5 rfl rfl)
theorem dX7_readsNow_123 : decode cX7_readsNow 123 = .ok (.getfield 7, 3) := dk_180 0 7 (dk_at dksX7_readsNow_5 6 rfl rfl)
theorem dX7_readsNow_126 : decode cX7_readsNow 126 = .ok (.bipush 120, 2) := dk_16 120 (dk_at dksX7_readsNow_5 9 rfl rfl)
theorem dX7_readsNow_128 : decode cX7_readsNow 128 = .ok (.iload_n 3, 1) := dk_29 (dk_at dksX7_readsNow_5 11 rfl rfl)
theorem dX7_readsNow_129 : decode cX7_readsNow 129 = .ok (.iadd, 1) := dk_96 (dk_at dksX7_readsNow_5 12 rfl rfl)
theorem dX7_readsNow_130 : decode cX7_readsNow 130 = .ok (.dup2, 1) := dk_92 (dk_at dksX7_readsNow_5 13 rfl rfl)
theorem dX7_readsNow_131 : decode cX7_readsNow 131 = .ok (.iaload, 1) := dk_46 (dk_at dksX7_readsNow_5 14 rfl rfl)
theorem dX7_readsNow_132 : decode cX7_readsNow 132 = .ok (.iload 6, 2) := dk_21 6 (dk_at dksX7_readsNow_5 15 rfl rfl)
theorem dX7_readsNow_134 : decode cX7_readsNow 134 = .ok (.iadd, 1) := dk_96 (dk_at dksX7_readsNow_5 17 rfl rfl)
theorem dX7_readsNow_135 : decode cX7_readsNow 135 = .ok (.iastore, 1) := dk_79 (dk_at dksX7_readsNow_5 18 rfl rfl)
theorem dX7_readsNow_136 : decode cX7_readsNow 136 = .ok (.iload 4, 2) := dk_21 4 (dk_at dksX7_readsNow_5 19 rfl rfl)
theorem dX7_readsNow_138 : decode cX7_readsNow 138 = .ok (.ifCond .le 59, 3) := dk_158 0 59 (dk_at dksX7_readsNow_5 21 rfl rfl)
theorem dX7_readsNow_141 : decode cX7_readsNow 141 = .ok (.aload_n 0, 1) := dk_42 (dk_at dksX7_readsNow_6 0 rfl rfl)
theorem dX7_readsNow_142 : decode cX7_readsNow 142 = .ok (.getfield 7, 3) := dk_180 0 7 (dk_at dksX7_readsNow_6 1 rfl rfl)
theorem dX7_readsNow_145 : decode cX7_readsNow 145 = .ok (.aload_n 0, 1) := dk_42 (dk_at dksX7_readsNow_6 4 rfl rfl)
theorem dX7_readsNow_146 : decode cX7_readsNow 146 = .ok (.iload_n 1, 1) := dk_27 (dk_at dksX7_readsNow_6 5 rfl rfl)
theorem dX7_readsNow_147 : decode cX7_readsNow 147 = .ok (.iload_n 3, 1) := dk_29 (dk_at dksX7_readsNow_6 6 rfl rfl)
theorem dX7_readsNow_148 : decode cX7_readsNow 148 = .ok (.invokevirtual 44, 3) := dk_182 0 44 (dk_at dksX7_readsNow_6 7 rfl rfl)
theorem dX7_readsNow_151 : decode cX7_readsNow 151 = .ok (.iaload, 1) := dk_46 (dk_at dksX7_readsNow_6 10 rfl rfl)
theorem dX7_readsNow_152 : decode cX7_readsNow 152 = .ok (.iload 4, 2) := dk_21 4 (dk_at dksX7_readsNow_6 11 rfl rfl)
theorem dX7_readsNow_154 : decode cX7_readsNow 154 = .ok (.invokestatic 56, 3) := dk_184 0 56 (dk_at dksX7_readsNow_6 13 rfl rfl)
theorem dX7_readsNow_157 : decode cX7_readsNow 157 = .ok (.iadd, 1) := dk_96 (dk_at dksX7_readsNow_6 16 rfl rfl)
theorem dX7_readsNow_158 : decode cX7_readsNow 158 = .ok (.istore 7, 2) := dk_54 7 (dk_at dksX7_readsNow_6 17 rfl rfl)
theorem dX7_readsNow_160 : decode cX7_readsNow 160 = .ok (.aload_n 0, 1) := dk_42 (dk_at dksX7_readsNow_6 19 rfl rfl)
theorem dX7_readsNow_161 : decode cX7_readsNow 161 = .ok (.getfield 7, 3) := dk_180 0 7 (dk_at dksX7_readsNow_6 20 rfl rfl)
theorem dX7_readsNow_164 : decode cX7_readsNow 164 = .ok (.aload_n 0, 1) := dk_42 (dk_at dksX7_readsNow_6 23 rfl rfl)
theorem dX7_readsNow_165 : decode cX7_readsNow 165 = .ok (.iload_n 1, 1) := dk_27 (dk_at dksX7_readsNow_7 0 rfl rfl)
theorem dX7_readsNow_166 : decode cX7_readsNow 166 = .ok (.iload_n 3, 1) := dk_29 (dk_at dksX7_readsNow_7 1 rfl rfl)
theorem dX7_readsNow_167 : decode cX7_readsNow 167 = .ok (.invokevirtual 44, 3) := dk_182 0 44 (dk_at dksX7_readsNow_7 2 rfl rfl)
theorem dX7_readsNow_170 : decode cX7_readsNow 170 = .ok (.iload 7, 2) := dk_21 7 (dk_at dksX7_readsNow_7 5 rfl rfl)
theorem dX7_readsNow_172 : decode cX7_readsNow 172 = .ok (.bipush 40, 2) := dk_16 40 (dk_at dksX7_readsNow_7 7 rfl rfl)
theorem dX7_readsNow_174 : decode cX7_readsNow 174 = .ok (.if_icmp .le 8, 3) := dk_164 0 8 (dk_at dksX7_readsNow_7 9 rfl rfl)
theorem dX7_readsNow_177 : decode cX7_readsNow 177 = .ok (.bipush 40, 2) := dk_16 40 (dk_at dksX7_readsNow_7 12 rfl rfl)
theorem dX7_readsNow_179 : decode cX7_readsNow 179 = .ok (.goto 17, 3) := dk_167 0 17 (dk_at dksX7_readsNow_7 14 rfl rfl)
theorem dX7_readsNow_182 : decode cX7_readsNow 182 = .ok (.iload 7, 2) := dk_21 7 (dk_at dksX7_readsNow_7 17 rfl rfl)
theorem dX7_readsNow_184 : decode cX7_readsNow 184 = .ok (.bipush (-40), 2) := dk_16 216 (dk_at dksX7_readsNow_7 19 rfl rfl)
theorem dX7_readsNow_186 : decode cX7_readsNow 186 = .ok (.if_icmp .ge 8, 3) := dk_162 0 8 (dk_at dksX7_readsNow_7 21 rfl rfl)
theorem dX7_readsNow_189 : decode cX7_readsNow 189 = .ok (.bipush (-40), 2) := dk_16 216 (dk_at dksX7_readsNow_8 0 rfl rfl)
theorem dX7_readsNow_191 : decode cX7_readsNow 191 = .ok (.goto 5, 3) := dk_167 0 5 (dk_at dksX7_readsNow_8 2 rfl rfl)
theorem dX7_readsNow_194 : decode cX7_readsNow 194 = .ok (.iload 7, 2) := dk_21 7 (dk_at dksX7_readsNow_8 5 rfl rfl)
theorem dX7_readsNow_196 : decode cX7_readsNow 196 = .ok (.iastore, 1) := dk_79 (dk_at dksX7_readsNow_8 7 rfl rfl)
theorem dX7_readsNow_197 : decode cX7_readsNow 197 = .ok (.aload_n 0, 1) := dk_42 (dk_at dksX7_readsNow_8 8 rfl rfl)
theorem dX7_readsNow_198 : decode cX7_readsNow 198 = .ok (.iload_n 1, 1) := dk_27 (dk_at dksX7_readsNow_8 9 rfl rfl)
theorem dX7_readsNow_199 : decode cX7_readsNow 199 = .ok (.iload_n 2, 1) := dk_28 (dk_at dksX7_readsNow_8 10 rfl rfl)
theorem dX7_readsNow_200 : decode cX7_readsNow 200 = .ok (.invokevirtual 100, 3) := dk_182 0 100 (dk_at dksX7_readsNow_8 11 rfl rfl)
theorem dX7_readsNow_203 : decode cX7_readsNow 203 = .ok (.iload 5, 2) := dk_21 5 (dk_at dksX7_readsNow_8 14 rfl rfl)
theorem dX7_readsNow_205 : decode cX7_readsNow 205 = .ok (.ireturn, 1) := dk_172 (dk_at dksX7_readsNow_8 16 rfl rfl)
abbrev cX7_retries : ByteArray := prog_13_method_18_code
def yX7_retries : MethodName := ⟨RX7, "retries", "(IIII)I"⟩
def dkwX7_retries_2 : List UInt8 := [172]
abbrev dktX7_retries_2 : List UInt8 := dkwX7_retries_2 ++ []
def dkwX7_retries_1 : List UInt8 := [21, 5, 184, 0, 56, 182, 0, 60, 18, 64, 149, 155, 0, 6, 21, 5, 172, 132, 5, 1, 167, 255, 216, 2]
abbrev dktX7_retries_1 : List UInt8 := dkwX7_retries_1 ++ dktX7_retries_2
def dkwX7_retries_0 : List UInt8 := [3, 54, 5, 21, 5, 5, 42, 180, 0, 7, 16, 88, 46, 104, 163, 0, 32, 42, 27, 28, 29, 21, 4]
abbrev dktX7_retries_0 : List UInt8 := dkwX7_retries_0 ++ dktX7_retries_1
theorem dksX7_retries_0 : cX7_retries.data.toList.drop 0 = dktX7_retries_0 := by decide +kernel
theorem dksX7_retries_1 : cX7_retries.data.toList.drop 23 = dktX7_retries_1 := dk_seg dksX7_retries_0 23 rfl rfl
theorem dksX7_retries_2 : cX7_retries.data.toList.drop 47 = dktX7_retries_2 := dk_seg dksX7_retries_1 24 rfl rfl
theorem dX7_retries_0 : decode cX7_retries 0 = .ok (.iconst 0, 1) := dk_3 (dk_at dksX7_retries_0 0 rfl rfl)
theorem dX7_retries_1 : decode cX7_retries 1 = .ok (.istore 5, 2) := dk_54 5 (dk_at dksX7_retries_0 1 rfl rfl)
theorem dX7_retries_3 : decode cX7_retries 3 = .ok (.iload 5, 2) := dk_21 5 (dk_at dksX7_retries_0 3 rfl rfl)
theorem dX7_retries_5 : decode cX7_retries 5 = .ok (.iconst 2, 1) := dk_5 (dk_at dksX7_retries_0 5 rfl rfl)
theorem dX7_retries_6 : decode cX7_retries 6 = .ok (.aload_n 0, 1) := dk_42 (dk_at dksX7_retries_0 6 rfl rfl)
theorem dX7_retries_7 : decode cX7_retries 7 = .ok (.getfield 7, 3) := dk_180 0 7 (dk_at dksX7_retries_0 7 rfl rfl)
theorem dX7_retries_10 : decode cX7_retries 10 = .ok (.bipush 88, 2) := dk_16 88 (dk_at dksX7_retries_0 10 rfl rfl)
theorem dX7_retries_12 : decode cX7_retries 12 = .ok (.iaload, 1) := dk_46 (dk_at dksX7_retries_0 12 rfl rfl)
theorem dX7_retries_13 : decode cX7_retries 13 = .ok (.imul, 1) := dk_104 (dk_at dksX7_retries_0 13 rfl rfl)
theorem dX7_retries_14 : decode cX7_retries 14 = .ok (.if_icmp .gt 32, 3) := dk_163 0 32 (dk_at dksX7_retries_0 14 rfl rfl)
theorem dX7_retries_17 : decode cX7_retries 17 = .ok (.aload_n 0, 1) := dk_42 (dk_at dksX7_retries_0 17 rfl rfl)
theorem dX7_retries_18 : decode cX7_retries 18 = .ok (.iload_n 1, 1) := dk_27 (dk_at dksX7_retries_0 18 rfl rfl)
theorem dX7_retries_19 : decode cX7_retries 19 = .ok (.iload_n 2, 1) := dk_28 (dk_at dksX7_retries_0 19 rfl rfl)
theorem dX7_retries_20 : decode cX7_retries 20 = .ok (.iload_n 3, 1) := dk_29 (dk_at dksX7_retries_0 20 rfl rfl)
theorem dX7_retries_21 : decode cX7_retries 21 = .ok (.iload 4, 2) := dk_21 4 (dk_at dksX7_retries_0 21 rfl rfl)
theorem dX7_retries_23 : decode cX7_retries 23 = .ok (.iload 5, 2) := dk_21 5 (dk_at dksX7_retries_1 0 rfl rfl)
theorem dX7_retries_25 : decode cX7_retries 25 = .ok (.invokestatic 56, 3) := dk_184 0 56 (dk_at dksX7_retries_1 2 rfl rfl)
theorem dX7_retries_28 : decode cX7_retries 28 = .ok (.invokevirtual 60, 3) := dk_182 0 60 (dk_at dksX7_retries_1 5 rfl rfl)
theorem dX7_retries_31 : decode cX7_retries 31 = .ok (.ldc 64, 2) := dk_18 64 (dk_at dksX7_retries_1 8 rfl rfl)
theorem dX7_retries_33 : decode cX7_retries 33 = .ok (.fcmp .l, 1) := dk_149 (dk_at dksX7_retries_1 10 rfl rfl)
theorem dX7_retries_34 : decode cX7_retries 34 = .ok (.ifCond .lt 6, 3) := dk_155 0 6 (dk_at dksX7_retries_1 11 rfl rfl)
theorem dX7_retries_37 : decode cX7_retries 37 = .ok (.iload 5, 2) := dk_21 5 (dk_at dksX7_retries_1 14 rfl rfl)
theorem dX7_retries_39 : decode cX7_retries 39 = .ok (.ireturn, 1) := dk_172 (dk_at dksX7_retries_1 16 rfl rfl)
theorem dX7_retries_40 : decode cX7_retries 40 = .ok (.iinc 5 1, 3) := dk_132 5 1 (dk_at dksX7_retries_1 17 rfl rfl)
theorem dX7_retries_43 : decode cX7_retries 43 = .ok (.goto (-40), 3) := dk_167 255 216 (dk_at dksX7_retries_1 20 rfl rfl)
theorem dX7_retries_46 : decode cX7_retries 46 = .ok (.iconst (-1), 1) := dk_2 (dk_at dksX7_retries_1 23 rfl rfl)
theorem dX7_retries_47 : decode cX7_retries 47 = .ok (.ireturn, 1) := dk_172 (dk_at dksX7_retries_2 0 rfl rfl)
abbrev cX7_tried : ByteArray := prog_13_method_17_code
def yX7_tried : MethodName := ⟨RX7, "tried", "(I)I"⟩
def dkwX7_tried_0 : List UInt8 := [26, 5, 112, 4, 160, 0, 13, 8, 26, 4, 96, 104, 5, 108, 167, 0, 9, 16, 251, 26, 104, 5, 108, 172]
abbrev dktX7_tried_0 : List UInt8 := dkwX7_tried_0 ++ []
theorem dksX7_tried_0 : cX7_tried.data.toList.drop 0 = dktX7_tried_0 := by decide +kernel
theorem dX7_tried_0 : decode cX7_tried 0 = .ok (.iload_n 0, 1) := dk_26 (dk_at dksX7_tried_0 0 rfl rfl)
theorem dX7_tried_1 : decode cX7_tried 1 = .ok (.iconst 2, 1) := dk_5 (dk_at dksX7_tried_0 1 rfl rfl)
theorem dX7_tried_2 : decode cX7_tried 2 = .ok (.irem, 1) := dk_112 (dk_at dksX7_tried_0 2 rfl rfl)
theorem dX7_tried_3 : decode cX7_tried 3 = .ok (.iconst 1, 1) := dk_4 (dk_at dksX7_tried_0 3 rfl rfl)
theorem dX7_tried_4 : decode cX7_tried 4 = .ok (.if_icmp .ne 13, 3) := dk_160 0 13 (dk_at dksX7_tried_0 4 rfl rfl)
theorem dX7_tried_7 : decode cX7_tried 7 = .ok (.iconst 5, 1) := dk_8 (dk_at dksX7_tried_0 7 rfl rfl)
theorem dX7_tried_8 : decode cX7_tried 8 = .ok (.iload_n 0, 1) := dk_26 (dk_at dksX7_tried_0 8 rfl rfl)
theorem dX7_tried_9 : decode cX7_tried 9 = .ok (.iconst 1, 1) := dk_4 (dk_at dksX7_tried_0 9 rfl rfl)
theorem dX7_tried_10 : decode cX7_tried 10 = .ok (.iadd, 1) := dk_96 (dk_at dksX7_tried_0 10 rfl rfl)
theorem dX7_tried_11 : decode cX7_tried 11 = .ok (.imul, 1) := dk_104 (dk_at dksX7_tried_0 11 rfl rfl)
theorem dX7_tried_12 : decode cX7_tried 12 = .ok (.iconst 2, 1) := dk_5 (dk_at dksX7_tried_0 12 rfl rfl)
theorem dX7_tried_13 : decode cX7_tried 13 = .ok (.idiv, 1) := dk_108 (dk_at dksX7_tried_0 13 rfl rfl)
theorem dX7_tried_14 : decode cX7_tried 14 = .ok (.goto 9, 3) := dk_167 0 9 (dk_at dksX7_tried_0 14 rfl rfl)
theorem dX7_tried_17 : decode cX7_tried 17 = .ok (.bipush (-5), 2) := dk_16 251 (dk_at dksX7_tried_0 17 rfl rfl)
theorem dX7_tried_19 : decode cX7_tried 19 = .ok (.iload_n 0, 1) := dk_26 (dk_at dksX7_tried_0 19 rfl rfl)
theorem dX7_tried_20 : decode cX7_tried 20 = .ok (.imul, 1) := dk_104 (dk_at dksX7_tried_0 20 rfl rfl)
theorem dX7_tried_21 : decode cX7_tried 21 = .ok (.iconst 2, 1) := dk_5 (dk_at dksX7_tried_0 21 rfl rfl)
theorem dX7_tried_22 : decode cX7_tried 22 = .ok (.idiv, 1) := dk_108 (dk_at dksX7_tried_0 22 rfl rfl)
theorem dX7_tried_23 : decode cX7_tried 23 = .ok (.ireturn, 1) := dk_172 (dk_at dksX7_tried_0 23 rfl rfl)
abbrev cX7_signalOf : ByteArray := prog_13_method_16_code
def yX7_signalOf : MethodName := ⟨RX7, "signalOf", "(IIIII)F"⟩
def dkwX7_signalOf_5 : List UInt8 := [23, 8, 174]
abbrev dktX7_signalOf_5 : List UInt8 := dkwX7_signalOf_5 ++ []
def dkwX7_signalOf_4 : List UInt8 := [180, 0, 7, 16, 16, 27, 28, 184, 0, 40, 96, 46, 4, 160, 0, 10, 23, 8, 13, 110, 167, 0, 5]
abbrev dktX7_signalOf_4 : List UInt8 := dkwX7_signalOf_4 ++ dktX7_signalOf_5
def dkwX7_signalOf_3 : List UInt8 := [161, 0, 5, 11, 174, 12, 21, 7, 134, 18, 55, 110, 102, 42, 180, 0, 13, 21, 6, 48, 106, 56, 8, 42]
abbrev dktX7_signalOf_3 : List UInt8 := dkwX7_signalOf_3 ++ dktX7_signalOf_4
def dkwX7_signalOf_2 : List UInt8 := [21, 7, 54, 7, 42, 180, 0, 7, 16, 126, 21, 6, 96, 46, 2, 159, 0, 10, 21, 7, 16, 20]
abbrev dktX7_signalOf_2 : List UInt8 := dkwX7_signalOf_2 ++ dktX7_signalOf_3
def dkwX7_signalOf_1 : List UInt8 := [180, 0, 7, 17, 3, 78, 21, 6, 96, 46, 100, 54, 7, 21, 7, 156, 0, 9, 21, 7, 116, 167, 0, 5]
abbrev dktX7_signalOf_1 : List UInt8 := dkwX7_signalOf_1 ++ dktX7_signalOf_2
def dkwX7_signalOf_0 : List UInt8 := [29, 28, 21, 4, 184, 0, 47, 54, 6, 42, 27, 28, 29, 21, 4, 182, 0, 51, 21, 5, 96, 42]
abbrev dktX7_signalOf_0 : List UInt8 := dkwX7_signalOf_0 ++ dktX7_signalOf_1
theorem dksX7_signalOf_0 : cX7_signalOf.data.toList.drop 0 = dktX7_signalOf_0 := by decide +kernel
theorem dksX7_signalOf_1 : cX7_signalOf.data.toList.drop 22 = dktX7_signalOf_1 := dk_seg dksX7_signalOf_0 22 rfl rfl
theorem dksX7_signalOf_2 : cX7_signalOf.data.toList.drop 46 = dktX7_signalOf_2 := dk_seg dksX7_signalOf_1 24 rfl rfl
theorem dksX7_signalOf_3 : cX7_signalOf.data.toList.drop 68 = dktX7_signalOf_3 := dk_seg dksX7_signalOf_2 22 rfl rfl
theorem dksX7_signalOf_4 : cX7_signalOf.data.toList.drop 92 = dktX7_signalOf_4 := dk_seg dksX7_signalOf_3 24 rfl rfl
theorem dksX7_signalOf_5 : cX7_signalOf.data.toList.drop 115 = dktX7_signalOf_5 := dk_seg dksX7_signalOf_4 23 rfl rfl
theorem dX7_signalOf_0 : decode cX7_signalOf 0 = .ok (.iload_n 3, 1) := dk_29 (dk_at dksX7_signalOf_0 0 rfl rfl)
theorem dX7_signalOf_1 : decode cX7_signalOf 1 = .ok (.iload_n 2, 1) := dk_28 (dk_at dksX7_signalOf_0 1 rfl rfl)
theorem dX7_signalOf_2 : decode cX7_signalOf 2 = .ok (.iload 4, 2) := dk_21 4 (dk_at dksX7_signalOf_0 2 rfl rfl)
theorem dX7_signalOf_4 : decode cX7_signalOf 4 = .ok (.invokestatic 47, 3) := dk_184 0 47 (dk_at dksX7_signalOf_0 4 rfl rfl)
theorem dX7_signalOf_7 : decode cX7_signalOf 7 = .ok (.istore 6, 2) := dk_54 6 (dk_at dksX7_signalOf_0 7 rfl rfl)
theorem dX7_signalOf_9 : decode cX7_signalOf 9 = .ok (.aload_n 0, 1) := dk_42 (dk_at dksX7_signalOf_0 9 rfl rfl)
theorem dX7_signalOf_10 : decode cX7_signalOf 10 = .ok (.iload_n 1, 1) := dk_27 (dk_at dksX7_signalOf_0 10 rfl rfl)
theorem dX7_signalOf_11 : decode cX7_signalOf 11 = .ok (.iload_n 2, 1) := dk_28 (dk_at dksX7_signalOf_0 11 rfl rfl)
theorem dX7_signalOf_12 : decode cX7_signalOf 12 = .ok (.iload_n 3, 1) := dk_29 (dk_at dksX7_signalOf_0 12 rfl rfl)
theorem dX7_signalOf_13 : decode cX7_signalOf 13 = .ok (.iload 4, 2) := dk_21 4 (dk_at dksX7_signalOf_0 13 rfl rfl)
theorem dX7_signalOf_15 : decode cX7_signalOf 15 = .ok (.invokevirtual 51, 3) := dk_182 0 51 (dk_at dksX7_signalOf_0 15 rfl rfl)
theorem dX7_signalOf_18 : decode cX7_signalOf 18 = .ok (.iload 5, 2) := dk_21 5 (dk_at dksX7_signalOf_0 18 rfl rfl)
theorem dX7_signalOf_20 : decode cX7_signalOf 20 = .ok (.iadd, 1) := dk_96 (dk_at dksX7_signalOf_0 20 rfl rfl)
theorem dX7_signalOf_21 : decode cX7_signalOf 21 = .ok (.aload_n 0, 1) := dk_42 (dk_at dksX7_signalOf_0 21 rfl rfl)
theorem dX7_signalOf_22 : decode cX7_signalOf 22 = .ok (.getfield 7, 3) := dk_180 0 7 (dk_at dksX7_signalOf_1 0 rfl rfl)
theorem dX7_signalOf_25 : decode cX7_signalOf 25 = .ok (.sipush 846, 3) := dk_17 3 78 (dk_at dksX7_signalOf_1 3 rfl rfl)
theorem dX7_signalOf_28 : decode cX7_signalOf 28 = .ok (.iload 6, 2) := dk_21 6 (dk_at dksX7_signalOf_1 6 rfl rfl)
theorem dX7_signalOf_30 : decode cX7_signalOf 30 = .ok (.iadd, 1) := dk_96 (dk_at dksX7_signalOf_1 8 rfl rfl)
theorem dX7_signalOf_31 : decode cX7_signalOf 31 = .ok (.iaload, 1) := dk_46 (dk_at dksX7_signalOf_1 9 rfl rfl)
theorem dX7_signalOf_32 : decode cX7_signalOf 32 = .ok (.isub, 1) := dk_100 (dk_at dksX7_signalOf_1 10 rfl rfl)
theorem dX7_signalOf_33 : decode cX7_signalOf 33 = .ok (.istore 7, 2) := dk_54 7 (dk_at dksX7_signalOf_1 11 rfl rfl)
theorem dX7_signalOf_35 : decode cX7_signalOf 35 = .ok (.iload 7, 2) := dk_21 7 (dk_at dksX7_signalOf_1 13 rfl rfl)
theorem dX7_signalOf_37 : decode cX7_signalOf 37 = .ok (.ifCond .ge 9, 3) := dk_156 0 9 (dk_at dksX7_signalOf_1 15 rfl rfl)
theorem dX7_signalOf_40 : decode cX7_signalOf 40 = .ok (.iload 7, 2) := dk_21 7 (dk_at dksX7_signalOf_1 18 rfl rfl)
theorem dX7_signalOf_42 : decode cX7_signalOf 42 = .ok (.ineg, 1) := dk_116 (dk_at dksX7_signalOf_1 20 rfl rfl)
theorem dX7_signalOf_43 : decode cX7_signalOf 43 = .ok (.goto 5, 3) := dk_167 0 5 (dk_at dksX7_signalOf_1 21 rfl rfl)
theorem dX7_signalOf_46 : decode cX7_signalOf 46 = .ok (.iload 7, 2) := dk_21 7 (dk_at dksX7_signalOf_2 0 rfl rfl)
theorem dX7_signalOf_48 : decode cX7_signalOf 48 = .ok (.istore 7, 2) := dk_54 7 (dk_at dksX7_signalOf_2 2 rfl rfl)
theorem dX7_signalOf_50 : decode cX7_signalOf 50 = .ok (.aload_n 0, 1) := dk_42 (dk_at dksX7_signalOf_2 4 rfl rfl)
theorem dX7_signalOf_51 : decode cX7_signalOf 51 = .ok (.getfield 7, 3) := dk_180 0 7 (dk_at dksX7_signalOf_2 5 rfl rfl)
theorem dX7_signalOf_54 : decode cX7_signalOf 54 = .ok (.bipush 126, 2) := dk_16 126 (dk_at dksX7_signalOf_2 8 rfl rfl)
theorem dX7_signalOf_56 : decode cX7_signalOf 56 = .ok (.iload 6, 2) := dk_21 6 (dk_at dksX7_signalOf_2 10 rfl rfl)
theorem dX7_signalOf_58 : decode cX7_signalOf 58 = .ok (.iadd, 1) := dk_96 (dk_at dksX7_signalOf_2 12 rfl rfl)
theorem dX7_signalOf_59 : decode cX7_signalOf 59 = .ok (.iaload, 1) := dk_46 (dk_at dksX7_signalOf_2 13 rfl rfl)
theorem dX7_signalOf_60 : decode cX7_signalOf 60 = .ok (.iconst (-1), 1) := dk_2 (dk_at dksX7_signalOf_2 14 rfl rfl)
theorem dX7_signalOf_61 : decode cX7_signalOf 61 = .ok (.if_icmp .eq 10, 3) := dk_159 0 10 (dk_at dksX7_signalOf_2 15 rfl rfl)
theorem dX7_signalOf_64 : decode cX7_signalOf 64 = .ok (.iload 7, 2) := dk_21 7 (dk_at dksX7_signalOf_2 18 rfl rfl)
theorem dX7_signalOf_66 : decode cX7_signalOf 66 = .ok (.bipush 20, 2) := dk_16 20 (dk_at dksX7_signalOf_2 20 rfl rfl)
theorem dX7_signalOf_68 : decode cX7_signalOf 68 = .ok (.if_icmp .lt 5, 3) := dk_161 0 5 (dk_at dksX7_signalOf_3 0 rfl rfl)
theorem dX7_signalOf_71 : decode cX7_signalOf 71 = .ok (.fconst 0, 1) := dk_11 (dk_at dksX7_signalOf_3 3 rfl rfl)
theorem dX7_signalOf_72 : decode cX7_signalOf 72 = .ok (.freturn, 1) := dk_174 (dk_at dksX7_signalOf_3 4 rfl rfl)
theorem dX7_signalOf_73 : decode cX7_signalOf 73 = .ok (.fconst 1, 1) := dk_12 (dk_at dksX7_signalOf_3 5 rfl rfl)
theorem dX7_signalOf_74 : decode cX7_signalOf 74 = .ok (.iload 7, 2) := dk_21 7 (dk_at dksX7_signalOf_3 6 rfl rfl)
theorem dX7_signalOf_76 : decode cX7_signalOf 76 = .ok (.i2f, 1) := dk_134 (dk_at dksX7_signalOf_3 8 rfl rfl)
theorem dX7_signalOf_77 : decode cX7_signalOf 77 = .ok (.ldc 55, 2) := dk_18 55 (dk_at dksX7_signalOf_3 9 rfl rfl)
theorem dX7_signalOf_79 : decode cX7_signalOf 79 = .ok (.fdiv, 1) := dk_110 (dk_at dksX7_signalOf_3 11 rfl rfl)
theorem dX7_signalOf_80 : decode cX7_signalOf 80 = .ok (.fsub, 1) := dk_102 (dk_at dksX7_signalOf_3 12 rfl rfl)
theorem dX7_signalOf_81 : decode cX7_signalOf 81 = .ok (.aload_n 0, 1) := dk_42 (dk_at dksX7_signalOf_3 13 rfl rfl)
theorem dX7_signalOf_82 : decode cX7_signalOf 82 = .ok (.getfield 13, 3) := dk_180 0 13 (dk_at dksX7_signalOf_3 14 rfl rfl)
theorem dX7_signalOf_85 : decode cX7_signalOf 85 = .ok (.iload 6, 2) := dk_21 6 (dk_at dksX7_signalOf_3 17 rfl rfl)
theorem dX7_signalOf_87 : decode cX7_signalOf 87 = .ok (.faload, 1) := dk_48 (dk_at dksX7_signalOf_3 19 rfl rfl)
theorem dX7_signalOf_88 : decode cX7_signalOf 88 = .ok (.fmul, 1) := dk_106 (dk_at dksX7_signalOf_3 20 rfl rfl)
theorem dX7_signalOf_89 : decode cX7_signalOf 89 = .ok (.fstore 8, 2) := dk_56 8 (dk_at dksX7_signalOf_3 21 rfl rfl)
theorem dX7_signalOf_91 : decode cX7_signalOf 91 = .ok (.aload_n 0, 1) := dk_42 (dk_at dksX7_signalOf_3 23 rfl rfl)
theorem dX7_signalOf_92 : decode cX7_signalOf 92 = .ok (.getfield 7, 3) := dk_180 0 7 (dk_at dksX7_signalOf_4 0 rfl rfl)
theorem dX7_signalOf_95 : decode cX7_signalOf 95 = .ok (.bipush 16, 2) := dk_16 16 (dk_at dksX7_signalOf_4 3 rfl rfl)
theorem dX7_signalOf_97 : decode cX7_signalOf 97 = .ok (.iload_n 1, 1) := dk_27 (dk_at dksX7_signalOf_4 5 rfl rfl)
theorem dX7_signalOf_98 : decode cX7_signalOf 98 = .ok (.iload_n 2, 1) := dk_28 (dk_at dksX7_signalOf_4 6 rfl rfl)
theorem dX7_signalOf_99 : decode cX7_signalOf 99 = .ok (.invokestatic 40, 3) := dk_184 0 40 (dk_at dksX7_signalOf_4 7 rfl rfl)
theorem dX7_signalOf_102 : decode cX7_signalOf 102 = .ok (.iadd, 1) := dk_96 (dk_at dksX7_signalOf_4 10 rfl rfl)
theorem dX7_signalOf_103 : decode cX7_signalOf 103 = .ok (.iaload, 1) := dk_46 (dk_at dksX7_signalOf_4 11 rfl rfl)
theorem dX7_signalOf_104 : decode cX7_signalOf 104 = .ok (.iconst 1, 1) := dk_4 (dk_at dksX7_signalOf_4 12 rfl rfl)
theorem dX7_signalOf_105 : decode cX7_signalOf 105 = .ok (.if_icmp .ne 10, 3) := dk_160 0 10 (dk_at dksX7_signalOf_4 13 rfl rfl)
theorem dX7_signalOf_108 : decode cX7_signalOf 108 = .ok (.fload 8, 2) := dk_23 8 (dk_at dksX7_signalOf_4 16 rfl rfl)
theorem dX7_signalOf_110 : decode cX7_signalOf 110 = .ok (.fconst 2, 1) := dk_13 (dk_at dksX7_signalOf_4 18 rfl rfl)
theorem dX7_signalOf_111 : decode cX7_signalOf 111 = .ok (.fdiv, 1) := dk_110 (dk_at dksX7_signalOf_4 19 rfl rfl)
theorem dX7_signalOf_112 : decode cX7_signalOf 112 = .ok (.goto 5, 3) := dk_167 0 5 (dk_at dksX7_signalOf_4 20 rfl rfl)
theorem dX7_signalOf_115 : decode cX7_signalOf 115 = .ok (.fload 8, 2) := dk_23 8 (dk_at dksX7_signalOf_5 0 rfl rfl)
theorem dX7_signalOf_117 : decode cX7_signalOf 117 = .ok (.freturn, 1) := dk_174 (dk_at dksX7_signalOf_5 2 rfl rfl)
abbrev cX7_strike : ByteArray := prog_13_method_46_code
def yX7_strike : MethodName := ⟨RX7, "strike", "(II)Z"⟩
def dkwX7_strike_3 : List UInt8 := [180, 0, 7, 16, 56, 27, 96, 46, 79, 29, 154, 0, 7, 4, 167, 0, 4, 3, 172]
abbrev dktX7_strike_3 : List UInt8 := dkwX7_strike_3 ++ []
def dkwX7_strike_2 : List UInt8 := [184, 0, 40, 96, 3, 79, 42, 180, 0, 7, 16, 56, 27, 96, 28, 6, 160, 0, 7, 3, 167, 0, 12, 42]
abbrev dktX7_strike_2 : List UInt8 := dkwX7_strike_2 ++ dktX7_strike_3
def dkwX7_strike_1 : List UInt8 := [172, 42, 16, 16, 27, 28, 184, 0, 40, 96, 4, 182, 0, 81, 62, 42, 180, 0, 7, 16, 32, 27, 28]
abbrev dktX7_strike_1 : List UInt8 := dkwX7_strike_1 ++ dktX7_strike_2
def dkwX7_strike_0 : List UInt8 := [42, 3, 181, 0, 32, 27, 184, 0, 71, 153, 0, 10, 28, 184, 0, 75, 154, 0, 9, 42, 4, 182, 0, 111]
abbrev dktX7_strike_0 : List UInt8 := dkwX7_strike_0 ++ dktX7_strike_1
theorem dksX7_strike_0 : cX7_strike.data.toList.drop 0 = dktX7_strike_0 := by decide +kernel
theorem dksX7_strike_1 : cX7_strike.data.toList.drop 24 = dktX7_strike_1 := dk_seg dksX7_strike_0 24 rfl rfl
theorem dksX7_strike_2 : cX7_strike.data.toList.drop 47 = dktX7_strike_2 := dk_seg dksX7_strike_1 23 rfl rfl
theorem dksX7_strike_3 : cX7_strike.data.toList.drop 71 = dktX7_strike_3 := dk_seg dksX7_strike_2 24 rfl rfl
theorem dX7_strike_0 : decode cX7_strike 0 = .ok (.aload_n 0, 1) := dk_42 (dk_at dksX7_strike_0 0 rfl rfl)
theorem dX7_strike_1 : decode cX7_strike 1 = .ok (.iconst 0, 1) := dk_3 (dk_at dksX7_strike_0 1 rfl rfl)
theorem dX7_strike_2 : decode cX7_strike 2 = .ok (.putfield 32, 3) := dk_181 0 32 (dk_at dksX7_strike_0 2 rfl rfl)
theorem dX7_strike_5 : decode cX7_strike 5 = .ok (.iload_n 1, 1) := dk_27 (dk_at dksX7_strike_0 5 rfl rfl)
theorem dX7_strike_6 : decode cX7_strike 6 = .ok (.invokestatic 71, 3) := dk_184 0 71 (dk_at dksX7_strike_0 6 rfl rfl)
theorem dX7_strike_9 : decode cX7_strike 9 = .ok (.ifCond .eq 10, 3) := dk_153 0 10 (dk_at dksX7_strike_0 9 rfl rfl)
theorem dX7_strike_12 : decode cX7_strike 12 = .ok (.iload_n 2, 1) := dk_28 (dk_at dksX7_strike_0 12 rfl rfl)
theorem dX7_strike_13 : decode cX7_strike 13 = .ok (.invokestatic 75, 3) := dk_184 0 75 (dk_at dksX7_strike_0 13 rfl rfl)
theorem dX7_strike_16 : decode cX7_strike 16 = .ok (.ifCond .ne 9, 3) := dk_154 0 9 (dk_at dksX7_strike_0 16 rfl rfl)
theorem dX7_strike_19 : decode cX7_strike 19 = .ok (.aload_n 0, 1) := dk_42 (dk_at dksX7_strike_0 19 rfl rfl)
theorem dX7_strike_20 : decode cX7_strike 20 = .ok (.iconst 1, 1) := dk_4 (dk_at dksX7_strike_0 20 rfl rfl)
theorem dX7_strike_21 : decode cX7_strike 21 = .ok (.invokevirtual 111, 3) := dk_182 0 111 (dk_at dksX7_strike_0 21 rfl rfl)
theorem dX7_strike_24 : decode cX7_strike 24 = .ok (.ireturn, 1) := dk_172 (dk_at dksX7_strike_1 0 rfl rfl)
theorem dX7_strike_25 : decode cX7_strike 25 = .ok (.aload_n 0, 1) := dk_42 (dk_at dksX7_strike_1 1 rfl rfl)
theorem dX7_strike_26 : decode cX7_strike 26 = .ok (.bipush 16, 2) := dk_16 16 (dk_at dksX7_strike_1 2 rfl rfl)
theorem dX7_strike_28 : decode cX7_strike 28 = .ok (.iload_n 1, 1) := dk_27 (dk_at dksX7_strike_1 4 rfl rfl)
theorem dX7_strike_29 : decode cX7_strike 29 = .ok (.iload_n 2, 1) := dk_28 (dk_at dksX7_strike_1 5 rfl rfl)
theorem dX7_strike_30 : decode cX7_strike 30 = .ok (.invokestatic 40, 3) := dk_184 0 40 (dk_at dksX7_strike_1 6 rfl rfl)
theorem dX7_strike_33 : decode cX7_strike 33 = .ok (.iadd, 1) := dk_96 (dk_at dksX7_strike_1 9 rfl rfl)
theorem dX7_strike_34 : decode cX7_strike 34 = .ok (.iconst 1, 1) := dk_4 (dk_at dksX7_strike_1 10 rfl rfl)
theorem dX7_strike_35 : decode cX7_strike 35 = .ok (.invokevirtual 81, 3) := dk_182 0 81 (dk_at dksX7_strike_1 11 rfl rfl)
theorem dX7_strike_38 : decode cX7_strike 38 = .ok (.istore_n 3, 1) := dk_62 (dk_at dksX7_strike_1 14 rfl rfl)
theorem dX7_strike_39 : decode cX7_strike 39 = .ok (.aload_n 0, 1) := dk_42 (dk_at dksX7_strike_1 15 rfl rfl)
theorem dX7_strike_40 : decode cX7_strike 40 = .ok (.getfield 7, 3) := dk_180 0 7 (dk_at dksX7_strike_1 16 rfl rfl)
theorem dX7_strike_43 : decode cX7_strike 43 = .ok (.bipush 32, 2) := dk_16 32 (dk_at dksX7_strike_1 19 rfl rfl)
theorem dX7_strike_45 : decode cX7_strike 45 = .ok (.iload_n 1, 1) := dk_27 (dk_at dksX7_strike_1 21 rfl rfl)
theorem dX7_strike_46 : decode cX7_strike 46 = .ok (.iload_n 2, 1) := dk_28 (dk_at dksX7_strike_1 22 rfl rfl)
theorem dX7_strike_47 : decode cX7_strike 47 = .ok (.invokestatic 40, 3) := dk_184 0 40 (dk_at dksX7_strike_2 0 rfl rfl)
theorem dX7_strike_50 : decode cX7_strike 50 = .ok (.iadd, 1) := dk_96 (dk_at dksX7_strike_2 3 rfl rfl)
theorem dX7_strike_51 : decode cX7_strike 51 = .ok (.iconst 0, 1) := dk_3 (dk_at dksX7_strike_2 4 rfl rfl)
theorem dX7_strike_52 : decode cX7_strike 52 = .ok (.iastore, 1) := dk_79 (dk_at dksX7_strike_2 5 rfl rfl)
theorem dX7_strike_53 : decode cX7_strike 53 = .ok (.aload_n 0, 1) := dk_42 (dk_at dksX7_strike_2 6 rfl rfl)
theorem dX7_strike_54 : decode cX7_strike 54 = .ok (.getfield 7, 3) := dk_180 0 7 (dk_at dksX7_strike_2 7 rfl rfl)
theorem dX7_strike_57 : decode cX7_strike 57 = .ok (.bipush 56, 2) := dk_16 56 (dk_at dksX7_strike_2 10 rfl rfl)
theorem dX7_strike_59 : decode cX7_strike 59 = .ok (.iload_n 1, 1) := dk_27 (dk_at dksX7_strike_2 12 rfl rfl)
theorem dX7_strike_60 : decode cX7_strike 60 = .ok (.iadd, 1) := dk_96 (dk_at dksX7_strike_2 13 rfl rfl)
theorem dX7_strike_61 : decode cX7_strike 61 = .ok (.iload_n 2, 1) := dk_28 (dk_at dksX7_strike_2 14 rfl rfl)
theorem dX7_strike_62 : decode cX7_strike 62 = .ok (.iconst 3, 1) := dk_6 (dk_at dksX7_strike_2 15 rfl rfl)
theorem dX7_strike_63 : decode cX7_strike 63 = .ok (.if_icmp .ne 7, 3) := dk_160 0 7 (dk_at dksX7_strike_2 16 rfl rfl)
theorem dX7_strike_66 : decode cX7_strike 66 = .ok (.iconst 0, 1) := dk_3 (dk_at dksX7_strike_2 19 rfl rfl)
theorem dX7_strike_67 : decode cX7_strike 67 = .ok (.goto 12, 3) := dk_167 0 12 (dk_at dksX7_strike_2 20 rfl rfl)
theorem dX7_strike_70 : decode cX7_strike 70 = .ok (.aload_n 0, 1) := dk_42 (dk_at dksX7_strike_2 23 rfl rfl)
theorem dX7_strike_71 : decode cX7_strike 71 = .ok (.getfield 7, 3) := dk_180 0 7 (dk_at dksX7_strike_3 0 rfl rfl)
theorem dX7_strike_74 : decode cX7_strike 74 = .ok (.bipush 56, 2) := dk_16 56 (dk_at dksX7_strike_3 3 rfl rfl)
theorem dX7_strike_76 : decode cX7_strike 76 = .ok (.iload_n 1, 1) := dk_27 (dk_at dksX7_strike_3 5 rfl rfl)
theorem dX7_strike_77 : decode cX7_strike 77 = .ok (.iadd, 1) := dk_96 (dk_at dksX7_strike_3 6 rfl rfl)
theorem dX7_strike_78 : decode cX7_strike 78 = .ok (.iaload, 1) := dk_46 (dk_at dksX7_strike_3 7 rfl rfl)
theorem dX7_strike_79 : decode cX7_strike 79 = .ok (.iastore, 1) := dk_79 (dk_at dksX7_strike_3 8 rfl rfl)
theorem dX7_strike_80 : decode cX7_strike 80 = .ok (.iload_n 3, 1) := dk_29 (dk_at dksX7_strike_3 9 rfl rfl)
theorem dX7_strike_81 : decode cX7_strike 81 = .ok (.ifCond .ne 7, 3) := dk_154 0 7 (dk_at dksX7_strike_3 10 rfl rfl)
theorem dX7_strike_84 : decode cX7_strike 84 = .ok (.iconst 1, 1) := dk_4 (dk_at dksX7_strike_3 13 rfl rfl)
theorem dX7_strike_85 : decode cX7_strike 85 = .ok (.goto 4, 3) := dk_167 0 4 (dk_at dksX7_strike_3 14 rfl rfl)
theorem dX7_strike_88 : decode cX7_strike 88 = .ok (.iconst 0, 1) := dk_3 (dk_at dksX7_strike_3 17 rfl rfl)
theorem dX7_strike_89 : decode cX7_strike 89 = .ok (.ireturn, 1) := dk_172 (dk_at dksX7_strike_3 18 rfl rfl)
abbrev cX7_mend : ByteArray := prog_13_method_47_code
def yX7_mend : MethodName := ⟨RX7, "mend", "(II)I"⟩
def dkwX7_mend_1 : List UInt8 := [172, 42, 182, 0, 68, 42, 27, 28, 182, 0, 138, 172]
abbrev dktX7_mend_1 : List UInt8 := dkwX7_mend_1 ++ []
def dkwX7_mend_0 : List UInt8 := [42, 3, 181, 0, 32, 27, 184, 0, 71, 153, 0, 10, 28, 184, 0, 75, 154, 0, 9, 42, 4, 182, 0, 78]
abbrev dktX7_mend_0 : List UInt8 := dkwX7_mend_0 ++ dktX7_mend_1
theorem dksX7_mend_0 : cX7_mend.data.toList.drop 0 = dktX7_mend_0 := by decide +kernel
theorem dksX7_mend_1 : cX7_mend.data.toList.drop 24 = dktX7_mend_1 := dk_seg dksX7_mend_0 24 rfl rfl
theorem dX7_mend_0 : decode cX7_mend 0 = .ok (.aload_n 0, 1) := dk_42 (dk_at dksX7_mend_0 0 rfl rfl)
theorem dX7_mend_1 : decode cX7_mend 1 = .ok (.iconst 0, 1) := dk_3 (dk_at dksX7_mend_0 1 rfl rfl)
theorem dX7_mend_2 : decode cX7_mend 2 = .ok (.putfield 32, 3) := dk_181 0 32 (dk_at dksX7_mend_0 2 rfl rfl)
theorem dX7_mend_5 : decode cX7_mend 5 = .ok (.iload_n 1, 1) := dk_27 (dk_at dksX7_mend_0 5 rfl rfl)
theorem dX7_mend_6 : decode cX7_mend 6 = .ok (.invokestatic 71, 3) := dk_184 0 71 (dk_at dksX7_mend_0 6 rfl rfl)
theorem dX7_mend_9 : decode cX7_mend 9 = .ok (.ifCond .eq 10, 3) := dk_153 0 10 (dk_at dksX7_mend_0 9 rfl rfl)
theorem dX7_mend_12 : decode cX7_mend 12 = .ok (.iload_n 2, 1) := dk_28 (dk_at dksX7_mend_0 12 rfl rfl)
theorem dX7_mend_13 : decode cX7_mend 13 = .ok (.invokestatic 75, 3) := dk_184 0 75 (dk_at dksX7_mend_0 13 rfl rfl)
theorem dX7_mend_16 : decode cX7_mend 16 = .ok (.ifCond .ne 9, 3) := dk_154 0 9 (dk_at dksX7_mend_0 16 rfl rfl)
theorem dX7_mend_19 : decode cX7_mend 19 = .ok (.aload_n 0, 1) := dk_42 (dk_at dksX7_mend_0 19 rfl rfl)
theorem dX7_mend_20 : decode cX7_mend 20 = .ok (.iconst 1, 1) := dk_4 (dk_at dksX7_mend_0 20 rfl rfl)
theorem dX7_mend_21 : decode cX7_mend 21 = .ok (.invokevirtual 78, 3) := dk_182 0 78 (dk_at dksX7_mend_0 21 rfl rfl)
theorem dX7_mend_24 : decode cX7_mend 24 = .ok (.ireturn, 1) := dk_172 (dk_at dksX7_mend_1 0 rfl rfl)
theorem dX7_mend_25 : decode cX7_mend 25 = .ok (.aload_n 0, 1) := dk_42 (dk_at dksX7_mend_1 1 rfl rfl)
theorem dX7_mend_26 : decode cX7_mend 26 = .ok (.invokevirtual 68, 3) := dk_182 0 68 (dk_at dksX7_mend_1 2 rfl rfl)
theorem dX7_mend_29 : decode cX7_mend 29 = .ok (.aload_n 0, 1) := dk_42 (dk_at dksX7_mend_1 5 rfl rfl)
theorem dX7_mend_30 : decode cX7_mend 30 = .ok (.iload_n 1, 1) := dk_27 (dk_at dksX7_mend_1 6 rfl rfl)
theorem dX7_mend_31 : decode cX7_mend 31 = .ok (.iload_n 2, 1) := dk_28 (dk_at dksX7_mend_1 7 rfl rfl)
theorem dX7_mend_32 : decode cX7_mend 32 = .ok (.invokevirtual 138, 3) := dk_182 0 138 (dk_at dksX7_mend_1 8 rfl rfl)
theorem dX7_mend_35 : decode cX7_mend 35 = .ok (.ireturn, 1) := dk_172 (dk_at dksX7_mend_1 11 rfl rfl)
abbrev cX7_mends : ByteArray := prog_13_method_35_code
def yX7_mends : MethodName := ⟨RX7, "mends", "(II)I"⟩
def dkwX7_mends_1 : List UInt8 := [3, 79, 42, 180, 0, 7, 3, 29, 96, 3, 79, 42, 180, 0, 7, 16, 32, 29, 96, 3, 79, 21, 4, 172]
abbrev dktX7_mends_1 : List UInt8 := dkwX7_mends_1 ++ []
def dkwX7_mends_0 : List UInt8 := [27, 28, 184, 0, 40, 62, 42, 180, 0, 7, 3, 29, 96, 46, 54, 4, 42, 180, 0, 7, 16, 16, 29, 96]
abbrev dktX7_mends_0 : List UInt8 := dkwX7_mends_0 ++ dktX7_mends_1
theorem dksX7_mends_0 : cX7_mends.data.toList.drop 0 = dktX7_mends_0 := by decide +kernel
theorem dksX7_mends_1 : cX7_mends.data.toList.drop 24 = dktX7_mends_1 := dk_seg dksX7_mends_0 24 rfl rfl
theorem dX7_mends_0 : decode cX7_mends 0 = .ok (.iload_n 1, 1) := dk_27 (dk_at dksX7_mends_0 0 rfl rfl)
theorem dX7_mends_1 : decode cX7_mends 1 = .ok (.iload_n 2, 1) := dk_28 (dk_at dksX7_mends_0 1 rfl rfl)
theorem dX7_mends_2 : decode cX7_mends 2 = .ok (.invokestatic 40, 3) := dk_184 0 40 (dk_at dksX7_mends_0 2 rfl rfl)
theorem dX7_mends_5 : decode cX7_mends 5 = .ok (.istore_n 3, 1) := dk_62 (dk_at dksX7_mends_0 5 rfl rfl)
theorem dX7_mends_6 : decode cX7_mends 6 = .ok (.aload_n 0, 1) := dk_42 (dk_at dksX7_mends_0 6 rfl rfl)
theorem dX7_mends_7 : decode cX7_mends 7 = .ok (.getfield 7, 3) := dk_180 0 7 (dk_at dksX7_mends_0 7 rfl rfl)
theorem dX7_mends_10 : decode cX7_mends 10 = .ok (.iconst 0, 1) := dk_3 (dk_at dksX7_mends_0 10 rfl rfl)
theorem dX7_mends_11 : decode cX7_mends 11 = .ok (.iload_n 3, 1) := dk_29 (dk_at dksX7_mends_0 11 rfl rfl)
theorem dX7_mends_12 : decode cX7_mends 12 = .ok (.iadd, 1) := dk_96 (dk_at dksX7_mends_0 12 rfl rfl)
theorem dX7_mends_13 : decode cX7_mends 13 = .ok (.iaload, 1) := dk_46 (dk_at dksX7_mends_0 13 rfl rfl)
theorem dX7_mends_14 : decode cX7_mends 14 = .ok (.istore 4, 2) := dk_54 4 (dk_at dksX7_mends_0 14 rfl rfl)
theorem dX7_mends_16 : decode cX7_mends 16 = .ok (.aload_n 0, 1) := dk_42 (dk_at dksX7_mends_0 16 rfl rfl)
theorem dX7_mends_17 : decode cX7_mends 17 = .ok (.getfield 7, 3) := dk_180 0 7 (dk_at dksX7_mends_0 17 rfl rfl)
theorem dX7_mends_20 : decode cX7_mends 20 = .ok (.bipush 16, 2) := dk_16 16 (dk_at dksX7_mends_0 20 rfl rfl)
theorem dX7_mends_22 : decode cX7_mends 22 = .ok (.iload_n 3, 1) := dk_29 (dk_at dksX7_mends_0 22 rfl rfl)
theorem dX7_mends_23 : decode cX7_mends 23 = .ok (.iadd, 1) := dk_96 (dk_at dksX7_mends_0 23 rfl rfl)
theorem dX7_mends_24 : decode cX7_mends 24 = .ok (.iconst 0, 1) := dk_3 (dk_at dksX7_mends_1 0 rfl rfl)
theorem dX7_mends_25 : decode cX7_mends 25 = .ok (.iastore, 1) := dk_79 (dk_at dksX7_mends_1 1 rfl rfl)
theorem dX7_mends_26 : decode cX7_mends 26 = .ok (.aload_n 0, 1) := dk_42 (dk_at dksX7_mends_1 2 rfl rfl)
theorem dX7_mends_27 : decode cX7_mends 27 = .ok (.getfield 7, 3) := dk_180 0 7 (dk_at dksX7_mends_1 3 rfl rfl)
theorem dX7_mends_30 : decode cX7_mends 30 = .ok (.iconst 0, 1) := dk_3 (dk_at dksX7_mends_1 6 rfl rfl)
theorem dX7_mends_31 : decode cX7_mends 31 = .ok (.iload_n 3, 1) := dk_29 (dk_at dksX7_mends_1 7 rfl rfl)
theorem dX7_mends_32 : decode cX7_mends 32 = .ok (.iadd, 1) := dk_96 (dk_at dksX7_mends_1 8 rfl rfl)
theorem dX7_mends_33 : decode cX7_mends 33 = .ok (.iconst 0, 1) := dk_3 (dk_at dksX7_mends_1 9 rfl rfl)
theorem dX7_mends_34 : decode cX7_mends 34 = .ok (.iastore, 1) := dk_79 (dk_at dksX7_mends_1 10 rfl rfl)
theorem dX7_mends_35 : decode cX7_mends 35 = .ok (.aload_n 0, 1) := dk_42 (dk_at dksX7_mends_1 11 rfl rfl)
theorem dX7_mends_36 : decode cX7_mends 36 = .ok (.getfield 7, 3) := dk_180 0 7 (dk_at dksX7_mends_1 12 rfl rfl)
theorem dX7_mends_39 : decode cX7_mends 39 = .ok (.bipush 32, 2) := dk_16 32 (dk_at dksX7_mends_1 15 rfl rfl)
theorem dX7_mends_41 : decode cX7_mends 41 = .ok (.iload_n 3, 1) := dk_29 (dk_at dksX7_mends_1 17 rfl rfl)
theorem dX7_mends_42 : decode cX7_mends 42 = .ok (.iadd, 1) := dk_96 (dk_at dksX7_mends_1 18 rfl rfl)
theorem dX7_mends_43 : decode cX7_mends 43 = .ok (.iconst 0, 1) := dk_3 (dk_at dksX7_mends_1 19 rfl rfl)
theorem dX7_mends_44 : decode cX7_mends 44 = .ok (.iastore, 1) := dk_79 (dk_at dksX7_mends_1 20 rfl rfl)
theorem dX7_mends_45 : decode cX7_mends 45 = .ok (.iload 4, 2) := dk_21 4 (dk_at dksX7_mends_1 21 rfl rfl)
theorem dX7_mends_47 : decode cX7_mends 47 = .ok (.ireturn, 1) := dk_172 (dk_at dksX7_mends_1 23 rfl rfl)
abbrev cX7_polish : ByteArray := prog_13_method_48_code
def yX7_polish : MethodName := ⟨RX7, "polish", "(I)I"⟩
def dkwX7_polish_1 : List UInt8 := [182, 0, 68, 42, 27, 182, 0, 144, 172]
abbrev dktX7_polish_1 : List UInt8 := dkwX7_polish_1 ++ []
def dkwX7_polish_0 : List UInt8 := [42, 3, 181, 0, 32, 42, 27, 182, 0, 141, 61, 28, 158, 0, 9, 42, 28, 182, 0, 78, 172, 42]
abbrev dktX7_polish_0 : List UInt8 := dkwX7_polish_0 ++ dktX7_polish_1
theorem dksX7_polish_0 : cX7_polish.data.toList.drop 0 = dktX7_polish_0 := by decide +kernel
theorem dksX7_polish_1 : cX7_polish.data.toList.drop 22 = dktX7_polish_1 := dk_seg dksX7_polish_0 22 rfl rfl
theorem dX7_polish_0 : decode cX7_polish 0 = .ok (.aload_n 0, 1) := dk_42 (dk_at dksX7_polish_0 0 rfl rfl)
theorem dX7_polish_1 : decode cX7_polish 1 = .ok (.iconst 0, 1) := dk_3 (dk_at dksX7_polish_0 1 rfl rfl)
theorem dX7_polish_2 : decode cX7_polish 2 = .ok (.putfield 32, 3) := dk_181 0 32 (dk_at dksX7_polish_0 2 rfl rfl)
theorem dX7_polish_5 : decode cX7_polish 5 = .ok (.aload_n 0, 1) := dk_42 (dk_at dksX7_polish_0 5 rfl rfl)
theorem dX7_polish_6 : decode cX7_polish 6 = .ok (.iload_n 1, 1) := dk_27 (dk_at dksX7_polish_0 6 rfl rfl)
theorem dX7_polish_7 : decode cX7_polish 7 = .ok (.invokevirtual 141, 3) := dk_182 0 141 (dk_at dksX7_polish_0 7 rfl rfl)
theorem dX7_polish_10 : decode cX7_polish 10 = .ok (.istore_n 2, 1) := dk_61 (dk_at dksX7_polish_0 10 rfl rfl)
theorem dX7_polish_11 : decode cX7_polish 11 = .ok (.iload_n 2, 1) := dk_28 (dk_at dksX7_polish_0 11 rfl rfl)
theorem dX7_polish_12 : decode cX7_polish 12 = .ok (.ifCond .le 9, 3) := dk_158 0 9 (dk_at dksX7_polish_0 12 rfl rfl)
theorem dX7_polish_15 : decode cX7_polish 15 = .ok (.aload_n 0, 1) := dk_42 (dk_at dksX7_polish_0 15 rfl rfl)
theorem dX7_polish_16 : decode cX7_polish 16 = .ok (.iload_n 2, 1) := dk_28 (dk_at dksX7_polish_0 16 rfl rfl)
theorem dX7_polish_17 : decode cX7_polish 17 = .ok (.invokevirtual 78, 3) := dk_182 0 78 (dk_at dksX7_polish_0 17 rfl rfl)
theorem dX7_polish_20 : decode cX7_polish 20 = .ok (.ireturn, 1) := dk_172 (dk_at dksX7_polish_0 20 rfl rfl)
theorem dX7_polish_21 : decode cX7_polish 21 = .ok (.aload_n 0, 1) := dk_42 (dk_at dksX7_polish_0 21 rfl rfl)
theorem dX7_polish_22 : decode cX7_polish 22 = .ok (.invokevirtual 68, 3) := dk_182 0 68 (dk_at dksX7_polish_1 0 rfl rfl)
theorem dX7_polish_25 : decode cX7_polish 25 = .ok (.aload_n 0, 1) := dk_42 (dk_at dksX7_polish_1 3 rfl rfl)
theorem dX7_polish_26 : decode cX7_polish 26 = .ok (.iload_n 1, 1) := dk_27 (dk_at dksX7_polish_1 4 rfl rfl)
theorem dX7_polish_27 : decode cX7_polish 27 = .ok (.invokevirtual 144, 3) := dk_182 0 144 (dk_at dksX7_polish_1 5 rfl rfl)
theorem dX7_polish_30 : decode cX7_polish 30 = .ok (.ireturn, 1) := dk_172 (dk_at dksX7_polish_1 8 rfl rfl)
abbrev cX7_polishRefusal : ByteArray := prog_13_method_29_code
def yX7_polishRefusal : MethodName := ⟨RX7, "polishRefusal", "(I)I"⟩
def dkwX7_polishRefusal_1 : List UInt8 := [167, 0, 4, 3, 172]
abbrev dktX7_polishRefusal_1 : List UInt8 := dkwX7_polishRefusal_1 ++ []
def dkwX7_polishRefusal_0 : List UInt8 := [42, 27, 182, 0, 84, 154, 0, 7, 4, 167, 0, 17, 42, 27, 182, 0, 87, 2, 159, 0, 7, 5]
abbrev dktX7_polishRefusal_0 : List UInt8 := dkwX7_polishRefusal_0 ++ dktX7_polishRefusal_1
theorem dksX7_polishRefusal_0 : cX7_polishRefusal.data.toList.drop 0 = dktX7_polishRefusal_0 := by decide +kernel
theorem dksX7_polishRefusal_1 : cX7_polishRefusal.data.toList.drop 22 = dktX7_polishRefusal_1 := dk_seg dksX7_polishRefusal_0 22 rfl rfl
theorem dX7_polishRefusal_0 : decode cX7_polishRefusal 0 = .ok (.aload_n 0, 1) := dk_42 (dk_at dksX7_polishRefusal_0 0 rfl rfl)
theorem dX7_polishRefusal_1 : decode cX7_polishRefusal 1 = .ok (.iload_n 1, 1) := dk_27 (dk_at dksX7_polishRefusal_0 1 rfl rfl)
theorem dX7_polishRefusal_2 : decode cX7_polishRefusal 2 = .ok (.invokevirtual 84, 3) := dk_182 0 84 (dk_at dksX7_polishRefusal_0 2 rfl rfl)
theorem dX7_polishRefusal_5 : decode cX7_polishRefusal 5 = .ok (.ifCond .ne 7, 3) := dk_154 0 7 (dk_at dksX7_polishRefusal_0 5 rfl rfl)
theorem dX7_polishRefusal_8 : decode cX7_polishRefusal 8 = .ok (.iconst 1, 1) := dk_4 (dk_at dksX7_polishRefusal_0 8 rfl rfl)
theorem dX7_polishRefusal_9 : decode cX7_polishRefusal 9 = .ok (.goto 17, 3) := dk_167 0 17 (dk_at dksX7_polishRefusal_0 9 rfl rfl)
theorem dX7_polishRefusal_12 : decode cX7_polishRefusal 12 = .ok (.aload_n 0, 1) := dk_42 (dk_at dksX7_polishRefusal_0 12 rfl rfl)
theorem dX7_polishRefusal_13 : decode cX7_polishRefusal 13 = .ok (.iload_n 1, 1) := dk_27 (dk_at dksX7_polishRefusal_0 13 rfl rfl)
theorem dX7_polishRefusal_14 : decode cX7_polishRefusal 14 = .ok (.invokevirtual 87, 3) := dk_182 0 87 (dk_at dksX7_polishRefusal_0 14 rfl rfl)
theorem dX7_polishRefusal_17 : decode cX7_polishRefusal 17 = .ok (.iconst (-1), 1) := dk_2 (dk_at dksX7_polishRefusal_0 17 rfl rfl)
theorem dX7_polishRefusal_18 : decode cX7_polishRefusal 18 = .ok (.if_icmp .eq 7, 3) := dk_159 0 7 (dk_at dksX7_polishRefusal_0 18 rfl rfl)
theorem dX7_polishRefusal_21 : decode cX7_polishRefusal 21 = .ok (.iconst 2, 1) := dk_5 (dk_at dksX7_polishRefusal_0 21 rfl rfl)
theorem dX7_polishRefusal_22 : decode cX7_polishRefusal 22 = .ok (.goto 4, 3) := dk_167 0 4 (dk_at dksX7_polishRefusal_1 0 rfl rfl)
theorem dX7_polishRefusal_25 : decode cX7_polishRefusal 25 = .ok (.iconst 0, 1) := dk_3 (dk_at dksX7_polishRefusal_1 3 rfl rfl)
theorem dX7_polishRefusal_26 : decode cX7_polishRefusal 26 = .ok (.ireturn, 1) := dk_172 (dk_at dksX7_polishRefusal_1 4 rfl rfl)
abbrev cX7_polishes : ByteArray := prog_13_method_36_code
def yX7_polishes : MethodName := ⟨RX7, "polishes", "(I)I"⟩
def dkwX7_polishes_3 : List UInt8 := [42, 180, 0, 7, 21, 4, 3, 79, 132, 3, 1, 167, 255, 177, 28, 172]
abbrev dktX7_polishes_3 : List UInt8 := dkwX7_polishes_3 ++ []
def dkwX7_polishes_2 : List UInt8 := [184, 0, 47, 92, 48, 13, 110, 81, 132, 5, 1, 167, 255, 219, 28, 42, 180, 0, 7, 21, 4, 46, 96, 61]
abbrev dktX7_polishes_2 : List UInt8 := dkwX7_polishes_2 ++ dktX7_polishes_3
def dkwX7_polishes_1 : List UInt8 := [16, 40, 162, 0, 36, 42, 180, 0, 7, 21, 4, 46, 4, 160, 0, 25, 42, 180, 0, 13, 27, 29, 21, 5]
abbrev dktX7_polishes_1 : List UInt8 := dkwX7_polishes_1 ++ dktX7_polishes_2
def dkwX7_polishes_0 : List UInt8 := [3, 61, 3, 62, 29, 6, 162, 0, 80, 16, 96, 6, 27, 104, 96, 29, 96, 54, 4, 3, 54, 5, 21, 5]
abbrev dktX7_polishes_0 : List UInt8 := dkwX7_polishes_0 ++ dktX7_polishes_1
theorem dksX7_polishes_0 : cX7_polishes.data.toList.drop 0 = dktX7_polishes_0 := by decide +kernel
theorem dksX7_polishes_1 : cX7_polishes.data.toList.drop 24 = dktX7_polishes_1 := dk_seg dksX7_polishes_0 24 rfl rfl
theorem dksX7_polishes_2 : cX7_polishes.data.toList.drop 48 = dktX7_polishes_2 := dk_seg dksX7_polishes_1 24 rfl rfl
theorem dksX7_polishes_3 : cX7_polishes.data.toList.drop 72 = dktX7_polishes_3 := dk_seg dksX7_polishes_2 24 rfl rfl
theorem dX7_polishes_0 : decode cX7_polishes 0 = .ok (.iconst 0, 1) := dk_3 (dk_at dksX7_polishes_0 0 rfl rfl)
theorem dX7_polishes_1 : decode cX7_polishes 1 = .ok (.istore_n 2, 1) := dk_61 (dk_at dksX7_polishes_0 1 rfl rfl)
theorem dX7_polishes_2 : decode cX7_polishes 2 = .ok (.iconst 0, 1) := dk_3 (dk_at dksX7_polishes_0 2 rfl rfl)
theorem dX7_polishes_3 : decode cX7_polishes 3 = .ok (.istore_n 3, 1) := dk_62 (dk_at dksX7_polishes_0 3 rfl rfl)
theorem dX7_polishes_4 : decode cX7_polishes 4 = .ok (.iload_n 3, 1) := dk_29 (dk_at dksX7_polishes_0 4 rfl rfl)
theorem dX7_polishes_5 : decode cX7_polishes 5 = .ok (.iconst 3, 1) := dk_6 (dk_at dksX7_polishes_0 5 rfl rfl)
theorem dX7_polishes_6 : decode cX7_polishes 6 = .ok (.if_icmp .ge 80, 3) := dk_162 0 80 (dk_at dksX7_polishes_0 6 rfl rfl)
theorem dX7_polishes_9 : decode cX7_polishes 9 = .ok (.bipush 96, 2) := dk_16 96 (dk_at dksX7_polishes_0 9 rfl rfl)
theorem dX7_polishes_11 : decode cX7_polishes 11 = .ok (.iconst 3, 1) := dk_6 (dk_at dksX7_polishes_0 11 rfl rfl)
theorem dX7_polishes_12 : decode cX7_polishes 12 = .ok (.iload_n 1, 1) := dk_27 (dk_at dksX7_polishes_0 12 rfl rfl)
theorem dX7_polishes_13 : decode cX7_polishes 13 = .ok (.imul, 1) := dk_104 (dk_at dksX7_polishes_0 13 rfl rfl)
theorem dX7_polishes_14 : decode cX7_polishes 14 = .ok (.iadd, 1) := dk_96 (dk_at dksX7_polishes_0 14 rfl rfl)
theorem dX7_polishes_15 : decode cX7_polishes 15 = .ok (.iload_n 3, 1) := dk_29 (dk_at dksX7_polishes_0 15 rfl rfl)
theorem dX7_polishes_16 : decode cX7_polishes 16 = .ok (.iadd, 1) := dk_96 (dk_at dksX7_polishes_0 16 rfl rfl)
theorem dX7_polishes_17 : decode cX7_polishes 17 = .ok (.istore 4, 2) := dk_54 4 (dk_at dksX7_polishes_0 17 rfl rfl)
theorem dX7_polishes_19 : decode cX7_polishes 19 = .ok (.iconst 0, 1) := dk_3 (dk_at dksX7_polishes_0 19 rfl rfl)
theorem dX7_polishes_20 : decode cX7_polishes 20 = .ok (.istore 5, 2) := dk_54 5 (dk_at dksX7_polishes_0 20 rfl rfl)
theorem dX7_polishes_22 : decode cX7_polishes 22 = .ok (.iload 5, 2) := dk_21 5 (dk_at dksX7_polishes_0 22 rfl rfl)
theorem dX7_polishes_24 : decode cX7_polishes 24 = .ok (.bipush 40, 2) := dk_16 40 (dk_at dksX7_polishes_1 0 rfl rfl)
theorem dX7_polishes_26 : decode cX7_polishes 26 = .ok (.if_icmp .ge 36, 3) := dk_162 0 36 (dk_at dksX7_polishes_1 2 rfl rfl)
theorem dX7_polishes_29 : decode cX7_polishes 29 = .ok (.aload_n 0, 1) := dk_42 (dk_at dksX7_polishes_1 5 rfl rfl)
theorem dX7_polishes_30 : decode cX7_polishes 30 = .ok (.getfield 7, 3) := dk_180 0 7 (dk_at dksX7_polishes_1 6 rfl rfl)
theorem dX7_polishes_33 : decode cX7_polishes 33 = .ok (.iload 4, 2) := dk_21 4 (dk_at dksX7_polishes_1 9 rfl rfl)
theorem dX7_polishes_35 : decode cX7_polishes 35 = .ok (.iaload, 1) := dk_46 (dk_at dksX7_polishes_1 11 rfl rfl)
theorem dX7_polishes_36 : decode cX7_polishes 36 = .ok (.iconst 1, 1) := dk_4 (dk_at dksX7_polishes_1 12 rfl rfl)
theorem dX7_polishes_37 : decode cX7_polishes 37 = .ok (.if_icmp .ne 25, 3) := dk_160 0 25 (dk_at dksX7_polishes_1 13 rfl rfl)
theorem dX7_polishes_40 : decode cX7_polishes 40 = .ok (.aload_n 0, 1) := dk_42 (dk_at dksX7_polishes_1 16 rfl rfl)
theorem dX7_polishes_41 : decode cX7_polishes 41 = .ok (.getfield 13, 3) := dk_180 0 13 (dk_at dksX7_polishes_1 17 rfl rfl)
theorem dX7_polishes_44 : decode cX7_polishes 44 = .ok (.iload_n 1, 1) := dk_27 (dk_at dksX7_polishes_1 20 rfl rfl)
theorem dX7_polishes_45 : decode cX7_polishes 45 = .ok (.iload_n 3, 1) := dk_29 (dk_at dksX7_polishes_1 21 rfl rfl)
theorem dX7_polishes_46 : decode cX7_polishes 46 = .ok (.iload 5, 2) := dk_21 5 (dk_at dksX7_polishes_1 22 rfl rfl)
theorem dX7_polishes_48 : decode cX7_polishes 48 = .ok (.invokestatic 47, 3) := dk_184 0 47 (dk_at dksX7_polishes_2 0 rfl rfl)
theorem dX7_polishes_51 : decode cX7_polishes 51 = .ok (.dup2, 1) := dk_92 (dk_at dksX7_polishes_2 3 rfl rfl)
theorem dX7_polishes_52 : decode cX7_polishes 52 = .ok (.faload, 1) := dk_48 (dk_at dksX7_polishes_2 4 rfl rfl)
theorem dX7_polishes_53 : decode cX7_polishes 53 = .ok (.fconst 2, 1) := dk_13 (dk_at dksX7_polishes_2 5 rfl rfl)
theorem dX7_polishes_54 : decode cX7_polishes 54 = .ok (.fdiv, 1) := dk_110 (dk_at dksX7_polishes_2 6 rfl rfl)
theorem dX7_polishes_55 : decode cX7_polishes 55 = .ok (.fastore, 1) := dk_81 (dk_at dksX7_polishes_2 7 rfl rfl)
theorem dX7_polishes_56 : decode cX7_polishes 56 = .ok (.iinc 5 1, 3) := dk_132 5 1 (dk_at dksX7_polishes_2 8 rfl rfl)
theorem dX7_polishes_59 : decode cX7_polishes 59 = .ok (.goto (-37), 3) := dk_167 255 219 (dk_at dksX7_polishes_2 11 rfl rfl)
theorem dX7_polishes_62 : decode cX7_polishes 62 = .ok (.iload_n 2, 1) := dk_28 (dk_at dksX7_polishes_2 14 rfl rfl)
theorem dX7_polishes_63 : decode cX7_polishes 63 = .ok (.aload_n 0, 1) := dk_42 (dk_at dksX7_polishes_2 15 rfl rfl)
theorem dX7_polishes_64 : decode cX7_polishes 64 = .ok (.getfield 7, 3) := dk_180 0 7 (dk_at dksX7_polishes_2 16 rfl rfl)
theorem dX7_polishes_67 : decode cX7_polishes 67 = .ok (.iload 4, 2) := dk_21 4 (dk_at dksX7_polishes_2 19 rfl rfl)
theorem dX7_polishes_69 : decode cX7_polishes 69 = .ok (.iaload, 1) := dk_46 (dk_at dksX7_polishes_2 21 rfl rfl)
theorem dX7_polishes_70 : decode cX7_polishes 70 = .ok (.iadd, 1) := dk_96 (dk_at dksX7_polishes_2 22 rfl rfl)
theorem dX7_polishes_71 : decode cX7_polishes 71 = .ok (.istore_n 2, 1) := dk_61 (dk_at dksX7_polishes_2 23 rfl rfl)
theorem dX7_polishes_72 : decode cX7_polishes 72 = .ok (.aload_n 0, 1) := dk_42 (dk_at dksX7_polishes_3 0 rfl rfl)
theorem dX7_polishes_73 : decode cX7_polishes 73 = .ok (.getfield 7, 3) := dk_180 0 7 (dk_at dksX7_polishes_3 1 rfl rfl)
theorem dX7_polishes_76 : decode cX7_polishes 76 = .ok (.iload 4, 2) := dk_21 4 (dk_at dksX7_polishes_3 4 rfl rfl)
theorem dX7_polishes_78 : decode cX7_polishes 78 = .ok (.iconst 0, 1) := dk_3 (dk_at dksX7_polishes_3 6 rfl rfl)
theorem dX7_polishes_79 : decode cX7_polishes 79 = .ok (.iastore, 1) := dk_79 (dk_at dksX7_polishes_3 7 rfl rfl)
theorem dX7_polishes_80 : decode cX7_polishes 80 = .ok (.iinc 3 1, 3) := dk_132 3 1 (dk_at dksX7_polishes_3 8 rfl rfl)
theorem dX7_polishes_83 : decode cX7_polishes 83 = .ok (.goto (-79), 3) := dk_167 255 177 (dk_at dksX7_polishes_3 11 rfl rfl)
theorem dX7_polishes_86 : decode cX7_polishes 86 = .ok (.iload_n 2, 1) := dk_28 (dk_at dksX7_polishes_3 14 rfl rfl)
theorem dX7_polishes_87 : decode cX7_polishes 87 = .ok (.ireturn, 1) := dk_172 (dk_at dksX7_polishes_3 15 rfl rfl)
abbrev cX7_offsetOf : ByteArray := prog_13_method_51_code
def yX7_offsetOf : MethodName := ⟨RX7, "offsetOf", "(II)I"⟩
def dkwX7_offsetOf_0 : List UInt8 := [42, 27, 28, 3, 182, 0, 147, 172]
abbrev dktX7_offsetOf_0 : List UInt8 := dkwX7_offsetOf_0 ++ []
theorem dksX7_offsetOf_0 : cX7_offsetOf.data.toList.drop 0 = dktX7_offsetOf_0 := by decide +kernel
theorem dX7_offsetOf_0 : decode cX7_offsetOf 0 = .ok (.aload_n 0, 1) := dk_42 (dk_at dksX7_offsetOf_0 0 rfl rfl)
theorem dX7_offsetOf_1 : decode cX7_offsetOf 1 = .ok (.iload_n 1, 1) := dk_27 (dk_at dksX7_offsetOf_0 1 rfl rfl)
theorem dX7_offsetOf_2 : decode cX7_offsetOf 2 = .ok (.iload_n 2, 1) := dk_28 (dk_at dksX7_offsetOf_0 2 rfl rfl)
theorem dX7_offsetOf_3 : decode cX7_offsetOf 3 = .ok (.iconst 0, 1) := dk_3 (dk_at dksX7_offsetOf_0 3 rfl rfl)
theorem dX7_offsetOf_4 : decode cX7_offsetOf 4 = .ok (.invokevirtual 147, 3) := dk_182 0 147 (dk_at dksX7_offsetOf_0 4 rfl rfl)
theorem dX7_offsetOf_7 : decode cX7_offsetOf 7 = .ok (.ireturn, 1) := dk_172 (dk_at dksX7_offsetOf_0 7 rfl rfl)
abbrev cX7_about : ByteArray := prog_13_method_49_code
def yX7_about : MethodName := ⟨RX7, "about", "(III)I"⟩
def dkwX7_about_1 : List UInt8 := [27, 28, 184, 0, 40, 96, 46, 167, 0, 8, 42, 4, 182, 0, 78, 172]
abbrev dktX7_about_1 : List UInt8 := dkwX7_about_1 ++ []
def dkwX7_about_0 : List UInt8 := [42, 3, 181, 0, 32, 27, 184, 0, 71, 153, 0, 25, 28, 184, 0, 75, 153, 0, 18, 42, 180, 0, 7, 29]
abbrev dktX7_about_0 : List UInt8 := dkwX7_about_0 ++ dktX7_about_1
theorem dksX7_about_0 : cX7_about.data.toList.drop 0 = dktX7_about_0 := by decide +kernel
theorem dksX7_about_1 : cX7_about.data.toList.drop 24 = dktX7_about_1 := dk_seg dksX7_about_0 24 rfl rfl
theorem dX7_about_0 : decode cX7_about 0 = .ok (.aload_n 0, 1) := dk_42 (dk_at dksX7_about_0 0 rfl rfl)
theorem dX7_about_1 : decode cX7_about 1 = .ok (.iconst 0, 1) := dk_3 (dk_at dksX7_about_0 1 rfl rfl)
theorem dX7_about_2 : decode cX7_about 2 = .ok (.putfield 32, 3) := dk_181 0 32 (dk_at dksX7_about_0 2 rfl rfl)
theorem dX7_about_5 : decode cX7_about 5 = .ok (.iload_n 1, 1) := dk_27 (dk_at dksX7_about_0 5 rfl rfl)
theorem dX7_about_6 : decode cX7_about 6 = .ok (.invokestatic 71, 3) := dk_184 0 71 (dk_at dksX7_about_0 6 rfl rfl)
theorem dX7_about_9 : decode cX7_about 9 = .ok (.ifCond .eq 25, 3) := dk_153 0 25 (dk_at dksX7_about_0 9 rfl rfl)
theorem dX7_about_12 : decode cX7_about 12 = .ok (.iload_n 2, 1) := dk_28 (dk_at dksX7_about_0 12 rfl rfl)
theorem dX7_about_13 : decode cX7_about 13 = .ok (.invokestatic 75, 3) := dk_184 0 75 (dk_at dksX7_about_0 13 rfl rfl)
theorem dX7_about_16 : decode cX7_about 16 = .ok (.ifCond .eq 18, 3) := dk_153 0 18 (dk_at dksX7_about_0 16 rfl rfl)
theorem dX7_about_19 : decode cX7_about 19 = .ok (.aload_n 0, 1) := dk_42 (dk_at dksX7_about_0 19 rfl rfl)
theorem dX7_about_20 : decode cX7_about 20 = .ok (.getfield 7, 3) := dk_180 0 7 (dk_at dksX7_about_0 20 rfl rfl)
theorem dX7_about_23 : decode cX7_about 23 = .ok (.iload_n 3, 1) := dk_29 (dk_at dksX7_about_0 23 rfl rfl)
theorem dX7_about_24 : decode cX7_about 24 = .ok (.iload_n 1, 1) := dk_27 (dk_at dksX7_about_1 0 rfl rfl)
theorem dX7_about_25 : decode cX7_about 25 = .ok (.iload_n 2, 1) := dk_28 (dk_at dksX7_about_1 1 rfl rfl)
theorem dX7_about_26 : decode cX7_about 26 = .ok (.invokestatic 40, 3) := dk_184 0 40 (dk_at dksX7_about_1 2 rfl rfl)
theorem dX7_about_29 : decode cX7_about 29 = .ok (.iadd, 1) := dk_96 (dk_at dksX7_about_1 5 rfl rfl)
theorem dX7_about_30 : decode cX7_about 30 = .ok (.iaload, 1) := dk_46 (dk_at dksX7_about_1 6 rfl rfl)
theorem dX7_about_31 : decode cX7_about 31 = .ok (.goto 8, 3) := dk_167 0 8 (dk_at dksX7_about_1 7 rfl rfl)
theorem dX7_about_34 : decode cX7_about 34 = .ok (.aload_n 0, 1) := dk_42 (dk_at dksX7_about_1 10 rfl rfl)
theorem dX7_about_35 : decode cX7_about 35 = .ok (.iconst 1, 1) := dk_4 (dk_at dksX7_about_1 11 rfl rfl)
theorem dX7_about_36 : decode cX7_about 36 = .ok (.invokevirtual 78, 3) := dk_182 0 78 (dk_at dksX7_about_1 12 rfl rfl)
theorem dX7_about_39 : decode cX7_about 39 = .ok (.ireturn, 1) := dk_172 (dk_at dksX7_about_1 15 rfl rfl)
abbrev cX7_isStruck : ByteArray := prog_13_method_52_code
def yX7_isStruck : MethodName := ⟨RX7, "isStruck", "(II)Z"⟩
def dkwX7_isStruck_0 : List UInt8 := [42, 27, 28, 16, 16, 182, 0, 147, 4, 160, 0, 7, 4, 167, 0, 4, 3, 172]
abbrev dktX7_isStruck_0 : List UInt8 := dkwX7_isStruck_0 ++ []
theorem dksX7_isStruck_0 : cX7_isStruck.data.toList.drop 0 = dktX7_isStruck_0 := by decide +kernel
theorem dX7_isStruck_0 : decode cX7_isStruck 0 = .ok (.aload_n 0, 1) := dk_42 (dk_at dksX7_isStruck_0 0 rfl rfl)
theorem dX7_isStruck_1 : decode cX7_isStruck 1 = .ok (.iload_n 1, 1) := dk_27 (dk_at dksX7_isStruck_0 1 rfl rfl)
theorem dX7_isStruck_2 : decode cX7_isStruck 2 = .ok (.iload_n 2, 1) := dk_28 (dk_at dksX7_isStruck_0 2 rfl rfl)
theorem dX7_isStruck_3 : decode cX7_isStruck 3 = .ok (.bipush 16, 2) := dk_16 16 (dk_at dksX7_isStruck_0 3 rfl rfl)
theorem dX7_isStruck_5 : decode cX7_isStruck 5 = .ok (.invokevirtual 147, 3) := dk_182 0 147 (dk_at dksX7_isStruck_0 5 rfl rfl)
theorem dX7_isStruck_8 : decode cX7_isStruck 8 = .ok (.iconst 1, 1) := dk_4 (dk_at dksX7_isStruck_0 8 rfl rfl)
theorem dX7_isStruck_9 : decode cX7_isStruck 9 = .ok (.if_icmp .ne 7, 3) := dk_160 0 7 (dk_at dksX7_isStruck_0 9 rfl rfl)
theorem dX7_isStruck_12 : decode cX7_isStruck 12 = .ok (.iconst 1, 1) := dk_4 (dk_at dksX7_isStruck_0 12 rfl rfl)
theorem dX7_isStruck_13 : decode cX7_isStruck 13 = .ok (.goto 4, 3) := dk_167 0 4 (dk_at dksX7_isStruck_0 13 rfl rfl)
theorem dX7_isStruck_16 : decode cX7_isStruck 16 = .ok (.iconst 0, 1) := dk_3 (dk_at dksX7_isStruck_0 16 rfl rfl)
theorem dX7_isStruck_17 : decode cX7_isStruck 17 = .ok (.ireturn, 1) := dk_172 (dk_at dksX7_isStruck_0 17 rfl rfl)
abbrev cX7_badPassesOf : ByteArray := prog_13_method_53_code
def yX7_badPassesOf : MethodName := ⟨RX7, "badPassesOf", "(II)I"⟩
def dkwX7_badPassesOf_0 : List UInt8 := [42, 27, 28, 16, 32, 182, 0, 147, 172]
abbrev dktX7_badPassesOf_0 : List UInt8 := dkwX7_badPassesOf_0 ++ []
theorem dksX7_badPassesOf_0 : cX7_badPassesOf.data.toList.drop 0 = dktX7_badPassesOf_0 := by decide +kernel
theorem dX7_badPassesOf_0 : decode cX7_badPassesOf 0 = .ok (.aload_n 0, 1) := dk_42 (dk_at dksX7_badPassesOf_0 0 rfl rfl)
theorem dX7_badPassesOf_1 : decode cX7_badPassesOf 1 = .ok (.iload_n 1, 1) := dk_27 (dk_at dksX7_badPassesOf_0 1 rfl rfl)
theorem dX7_badPassesOf_2 : decode cX7_badPassesOf 2 = .ok (.iload_n 2, 1) := dk_28 (dk_at dksX7_badPassesOf_0 2 rfl rfl)
theorem dX7_badPassesOf_3 : decode cX7_badPassesOf 3 = .ok (.bipush 32, 2) := dk_16 32 (dk_at dksX7_badPassesOf_0 3 rfl rfl)
theorem dX7_badPassesOf_5 : decode cX7_badPassesOf 5 = .ok (.invokevirtual 147, 3) := dk_182 0 147 (dk_at dksX7_badPassesOf_0 5 rfl rfl)
theorem dX7_badPassesOf_8 : decode cX7_badPassesOf 8 = .ok (.ireturn, 1) := dk_172 (dk_at dksX7_badPassesOf_0 8 rfl rfl)
abbrev cX7_warmthOf : ByteArray := prog_13_method_54_code
def yX7_warmthOf : MethodName := ⟨RX7, "warmthOf", "(I)I"⟩
def dkwX7_warmthOf_0 : List UInt8 := [42, 27, 16, 48, 182, 0, 150, 172]
abbrev dktX7_warmthOf_0 : List UInt8 := dkwX7_warmthOf_0 ++ []
theorem dksX7_warmthOf_0 : cX7_warmthOf.data.toList.drop 0 = dktX7_warmthOf_0 := by decide +kernel
theorem dX7_warmthOf_0 : decode cX7_warmthOf 0 = .ok (.aload_n 0, 1) := dk_42 (dk_at dksX7_warmthOf_0 0 rfl rfl)
theorem dX7_warmthOf_1 : decode cX7_warmthOf 1 = .ok (.iload_n 1, 1) := dk_27 (dk_at dksX7_warmthOf_0 1 rfl rfl)
theorem dX7_warmthOf_2 : decode cX7_warmthOf 2 = .ok (.bipush 48, 2) := dk_16 48 (dk_at dksX7_warmthOf_0 2 rfl rfl)
theorem dX7_warmthOf_4 : decode cX7_warmthOf 4 = .ok (.invokevirtual 150, 3) := dk_182 0 150 (dk_at dksX7_warmthOf_0 4 rfl rfl)
theorem dX7_warmthOf_7 : decode cX7_warmthOf 7 = .ok (.ireturn, 1) := dk_172 (dk_at dksX7_warmthOf_0 7 rfl rfl)
abbrev cX7_ofDrive : ByteArray := prog_13_method_50_code
def yX7_ofDrive : MethodName := ⟨RX7, "ofDrive", "(II)I"⟩
def dkwX7_ofDrive_1 : List UInt8 := [4, 182, 0, 78, 172]
abbrev dktX7_ofDrive_1 : List UInt8 := dkwX7_ofDrive_1 ++ []
def dkwX7_ofDrive_0 : List UInt8 := [42, 3, 181, 0, 32, 27, 184, 0, 71, 153, 0, 14, 42, 180, 0, 7, 28, 27, 96, 46, 167, 0, 8, 42]
abbrev dktX7_ofDrive_0 : List UInt8 := dkwX7_ofDrive_0 ++ dktX7_ofDrive_1
theorem dksX7_ofDrive_0 : cX7_ofDrive.data.toList.drop 0 = dktX7_ofDrive_0 := by decide +kernel
theorem dksX7_ofDrive_1 : cX7_ofDrive.data.toList.drop 24 = dktX7_ofDrive_1 := dk_seg dksX7_ofDrive_0 24 rfl rfl
theorem dX7_ofDrive_0 : decode cX7_ofDrive 0 = .ok (.aload_n 0, 1) := dk_42 (dk_at dksX7_ofDrive_0 0 rfl rfl)
theorem dX7_ofDrive_1 : decode cX7_ofDrive 1 = .ok (.iconst 0, 1) := dk_3 (dk_at dksX7_ofDrive_0 1 rfl rfl)
theorem dX7_ofDrive_2 : decode cX7_ofDrive 2 = .ok (.putfield 32, 3) := dk_181 0 32 (dk_at dksX7_ofDrive_0 2 rfl rfl)
theorem dX7_ofDrive_5 : decode cX7_ofDrive 5 = .ok (.iload_n 1, 1) := dk_27 (dk_at dksX7_ofDrive_0 5 rfl rfl)
theorem dX7_ofDrive_6 : decode cX7_ofDrive 6 = .ok (.invokestatic 71, 3) := dk_184 0 71 (dk_at dksX7_ofDrive_0 6 rfl rfl)
theorem dX7_ofDrive_9 : decode cX7_ofDrive 9 = .ok (.ifCond .eq 14, 3) := dk_153 0 14 (dk_at dksX7_ofDrive_0 9 rfl rfl)
theorem dX7_ofDrive_12 : decode cX7_ofDrive 12 = .ok (.aload_n 0, 1) := dk_42 (dk_at dksX7_ofDrive_0 12 rfl rfl)
theorem dX7_ofDrive_13 : decode cX7_ofDrive 13 = .ok (.getfield 7, 3) := dk_180 0 7 (dk_at dksX7_ofDrive_0 13 rfl rfl)
theorem dX7_ofDrive_16 : decode cX7_ofDrive 16 = .ok (.iload_n 2, 1) := dk_28 (dk_at dksX7_ofDrive_0 16 rfl rfl)
theorem dX7_ofDrive_17 : decode cX7_ofDrive 17 = .ok (.iload_n 1, 1) := dk_27 (dk_at dksX7_ofDrive_0 17 rfl rfl)
theorem dX7_ofDrive_18 : decode cX7_ofDrive 18 = .ok (.iadd, 1) := dk_96 (dk_at dksX7_ofDrive_0 18 rfl rfl)
theorem dX7_ofDrive_19 : decode cX7_ofDrive 19 = .ok (.iaload, 1) := dk_46 (dk_at dksX7_ofDrive_0 19 rfl rfl)
theorem dX7_ofDrive_20 : decode cX7_ofDrive 20 = .ok (.goto 8, 3) := dk_167 0 8 (dk_at dksX7_ofDrive_0 20 rfl rfl)
theorem dX7_ofDrive_23 : decode cX7_ofDrive 23 = .ok (.aload_n 0, 1) := dk_42 (dk_at dksX7_ofDrive_0 23 rfl rfl)
theorem dX7_ofDrive_24 : decode cX7_ofDrive 24 = .ok (.iconst 1, 1) := dk_4 (dk_at dksX7_ofDrive_1 0 rfl rfl)
theorem dX7_ofDrive_25 : decode cX7_ofDrive 25 = .ok (.invokevirtual 78, 3) := dk_182 0 78 (dk_at dksX7_ofDrive_1 1 rfl rfl)
theorem dX7_ofDrive_28 : decode cX7_ofDrive 28 = .ok (.ireturn, 1) := dk_172 (dk_at dksX7_ofDrive_1 4 rfl rfl)
abbrev cX7_cylinderOf : ByteArray := prog_13_method_55_code
def yX7_cylinderOf : MethodName := ⟨RX7, "cylinderOf", "(I)I"⟩
def dkwX7_cylinderOf_0 : List UInt8 := [42, 27, 16, 52, 182, 0, 150, 172]
abbrev dktX7_cylinderOf_0 : List UInt8 := dkwX7_cylinderOf_0 ++ []
theorem dksX7_cylinderOf_0 : cX7_cylinderOf.data.toList.drop 0 = dktX7_cylinderOf_0 := by decide +kernel
theorem dX7_cylinderOf_0 : decode cX7_cylinderOf 0 = .ok (.aload_n 0, 1) := dk_42 (dk_at dksX7_cylinderOf_0 0 rfl rfl)
theorem dX7_cylinderOf_1 : decode cX7_cylinderOf 1 = .ok (.iload_n 1, 1) := dk_27 (dk_at dksX7_cylinderOf_0 1 rfl rfl)
theorem dX7_cylinderOf_2 : decode cX7_cylinderOf 2 = .ok (.bipush 52, 2) := dk_16 52 (dk_at dksX7_cylinderOf_0 2 rfl rfl)
theorem dX7_cylinderOf_4 : decode cX7_cylinderOf 4 = .ok (.invokevirtual 150, 3) := dk_182 0 150 (dk_at dksX7_cylinderOf_0 4 rfl rfl)
theorem dX7_cylinderOf_7 : decode cX7_cylinderOf 7 = .ok (.ireturn, 1) := dk_172 (dk_at dksX7_cylinderOf_0 7 rfl rfl)
abbrev cX7_packIn : ByteArray := prog_13_method_56_code
def yX7_packIn : MethodName := ⟨RX7, "packIn", "(I)I"⟩
def dkwX7_packIn_0 : List UInt8 := [42, 27, 16, 60, 182, 0, 150, 172]
abbrev dktX7_packIn_0 : List UInt8 := dkwX7_packIn_0 ++ []
theorem dksX7_packIn_0 : cX7_packIn.data.toList.drop 0 = dktX7_packIn_0 := by decide +kernel
theorem dX7_packIn_0 : decode cX7_packIn 0 = .ok (.aload_n 0, 1) := dk_42 (dk_at dksX7_packIn_0 0 rfl rfl)
theorem dX7_packIn_1 : decode cX7_packIn 1 = .ok (.iload_n 1, 1) := dk_27 (dk_at dksX7_packIn_0 1 rfl rfl)
theorem dX7_packIn_2 : decode cX7_packIn 2 = .ok (.bipush 60, 2) := dk_16 60 (dk_at dksX7_packIn_0 2 rfl rfl)
theorem dX7_packIn_4 : decode cX7_packIn 4 = .ok (.invokevirtual 150, 3) := dk_182 0 150 (dk_at dksX7_packIn_0 4 rfl rfl)
theorem dX7_packIn_7 : decode cX7_packIn 7 = .ok (.ireturn, 1) := dk_172 (dk_at dksX7_packIn_0 7 rfl rfl)
abbrev cX7_learned : ByteArray := prog_13_method_57_code
def yX7_learned : MethodName := ⟨RX7, "learned", "(II)I"⟩
def dkwX7_learned_1 : List UInt8 := [42, 27, 28, 182, 0, 44, 46, 167, 0, 8, 42, 4, 182, 0, 78, 172]
abbrev dktX7_learned_1 : List UInt8 := dkwX7_learned_1 ++ []
def dkwX7_learned_0 : List UInt8 := [42, 3, 181, 0, 32, 27, 184, 0, 71, 153, 0, 25, 42, 28, 182, 0, 84, 153, 0, 17, 42, 180, 0, 7]
abbrev dktX7_learned_0 : List UInt8 := dkwX7_learned_0 ++ dktX7_learned_1
theorem dksX7_learned_0 : cX7_learned.data.toList.drop 0 = dktX7_learned_0 := by decide +kernel
theorem dksX7_learned_1 : cX7_learned.data.toList.drop 24 = dktX7_learned_1 := dk_seg dksX7_learned_0 24 rfl rfl
theorem dX7_learned_0 : decode cX7_learned 0 = .ok (.aload_n 0, 1) := dk_42 (dk_at dksX7_learned_0 0 rfl rfl)
theorem dX7_learned_1 : decode cX7_learned 1 = .ok (.iconst 0, 1) := dk_3 (dk_at dksX7_learned_0 1 rfl rfl)
theorem dX7_learned_2 : decode cX7_learned 2 = .ok (.putfield 32, 3) := dk_181 0 32 (dk_at dksX7_learned_0 2 rfl rfl)
theorem dX7_learned_5 : decode cX7_learned 5 = .ok (.iload_n 1, 1) := dk_27 (dk_at dksX7_learned_0 5 rfl rfl)
theorem dX7_learned_6 : decode cX7_learned 6 = .ok (.invokestatic 71, 3) := dk_184 0 71 (dk_at dksX7_learned_0 6 rfl rfl)
theorem dX7_learned_9 : decode cX7_learned 9 = .ok (.ifCond .eq 25, 3) := dk_153 0 25 (dk_at dksX7_learned_0 9 rfl rfl)
theorem dX7_learned_12 : decode cX7_learned 12 = .ok (.aload_n 0, 1) := dk_42 (dk_at dksX7_learned_0 12 rfl rfl)
theorem dX7_learned_13 : decode cX7_learned 13 = .ok (.iload_n 2, 1) := dk_28 (dk_at dksX7_learned_0 13 rfl rfl)
theorem dX7_learned_14 : decode cX7_learned 14 = .ok (.invokevirtual 84, 3) := dk_182 0 84 (dk_at dksX7_learned_0 14 rfl rfl)
theorem dX7_learned_17 : decode cX7_learned 17 = .ok (.ifCond .eq 17, 3) := dk_153 0 17 (dk_at dksX7_learned_0 17 rfl rfl)
theorem dX7_learned_20 : decode cX7_learned 20 = .ok (.aload_n 0, 1) := dk_42 (dk_at dksX7_learned_0 20 rfl rfl)
theorem dX7_learned_21 : decode cX7_learned 21 = .ok (.getfield 7, 3) := dk_180 0 7 (dk_at dksX7_learned_0 21 rfl rfl)
theorem dX7_learned_24 : decode cX7_learned 24 = .ok (.aload_n 0, 1) := dk_42 (dk_at dksX7_learned_1 0 rfl rfl)
theorem dX7_learned_25 : decode cX7_learned 25 = .ok (.iload_n 1, 1) := dk_27 (dk_at dksX7_learned_1 1 rfl rfl)
theorem dX7_learned_26 : decode cX7_learned 26 = .ok (.iload_n 2, 1) := dk_28 (dk_at dksX7_learned_1 2 rfl rfl)
theorem dX7_learned_27 : decode cX7_learned 27 = .ok (.invokevirtual 44, 3) := dk_182 0 44 (dk_at dksX7_learned_1 3 rfl rfl)
theorem dX7_learned_30 : decode cX7_learned 30 = .ok (.iaload, 1) := dk_46 (dk_at dksX7_learned_1 6 rfl rfl)
theorem dX7_learned_31 : decode cX7_learned 31 = .ok (.goto 8, 3) := dk_167 0 8 (dk_at dksX7_learned_1 7 rfl rfl)
theorem dX7_learned_34 : decode cX7_learned 34 = .ok (.aload_n 0, 1) := dk_42 (dk_at dksX7_learned_1 10 rfl rfl)
theorem dX7_learned_35 : decode cX7_learned 35 = .ok (.iconst 1, 1) := dk_4 (dk_at dksX7_learned_1 11 rfl rfl)
theorem dX7_learned_36 : decode cX7_learned 36 = .ok (.invokevirtual 78, 3) := dk_182 0 78 (dk_at dksX7_learned_1 12 rfl rfl)
theorem dX7_learned_39 : decode cX7_learned 39 = .ok (.ireturn, 1) := dk_172 (dk_at dksX7_learned_1 15 rfl rfl)
abbrev cX7_placeOf : ByteArray := prog_13_method_58_code
def yX7_placeOf : MethodName := ⟨RX7, "placeOf", "(II)I"⟩
def dkwX7_placeOf_2 : List UInt8 := [172]
abbrev dktX7_placeOf_2 : List UInt8 := dkwX7_placeOf_2 ++ []
def dkwX7_placeOf_1 : List UInt8 := [42, 27, 28, 42, 180, 0, 7, 16, 60, 27, 96, 46, 42, 180, 0, 7, 16, 52, 27, 96, 46, 182, 0, 51]
abbrev dktX7_placeOf_1 : List UInt8 := dkwX7_placeOf_1 ++ dktX7_placeOf_2
def dkwX7_placeOf_0 : List UInt8 := [42, 3, 181, 0, 32, 42, 27, 28, 182, 0, 132, 62, 29, 158, 0, 11, 42, 29, 182, 0, 78, 167, 0, 27]
abbrev dktX7_placeOf_0 : List UInt8 := dkwX7_placeOf_0 ++ dktX7_placeOf_1
theorem dksX7_placeOf_0 : cX7_placeOf.data.toList.drop 0 = dktX7_placeOf_0 := by decide +kernel
theorem dksX7_placeOf_1 : cX7_placeOf.data.toList.drop 24 = dktX7_placeOf_1 := dk_seg dksX7_placeOf_0 24 rfl rfl
theorem dksX7_placeOf_2 : cX7_placeOf.data.toList.drop 48 = dktX7_placeOf_2 := dk_seg dksX7_placeOf_1 24 rfl rfl
theorem dX7_placeOf_0 : decode cX7_placeOf 0 = .ok (.aload_n 0, 1) := dk_42 (dk_at dksX7_placeOf_0 0 rfl rfl)
theorem dX7_placeOf_1 : decode cX7_placeOf 1 = .ok (.iconst 0, 1) := dk_3 (dk_at dksX7_placeOf_0 1 rfl rfl)
theorem dX7_placeOf_2 : decode cX7_placeOf 2 = .ok (.putfield 32, 3) := dk_181 0 32 (dk_at dksX7_placeOf_0 2 rfl rfl)
theorem dX7_placeOf_5 : decode cX7_placeOf 5 = .ok (.aload_n 0, 1) := dk_42 (dk_at dksX7_placeOf_0 5 rfl rfl)
theorem dX7_placeOf_6 : decode cX7_placeOf 6 = .ok (.iload_n 1, 1) := dk_27 (dk_at dksX7_placeOf_0 6 rfl rfl)
theorem dX7_placeOf_7 : decode cX7_placeOf 7 = .ok (.iload_n 2, 1) := dk_28 (dk_at dksX7_placeOf_0 7 rfl rfl)
theorem dX7_placeOf_8 : decode cX7_placeOf 8 = .ok (.invokevirtual 132, 3) := dk_182 0 132 (dk_at dksX7_placeOf_0 8 rfl rfl)
theorem dX7_placeOf_11 : decode cX7_placeOf 11 = .ok (.istore_n 3, 1) := dk_62 (dk_at dksX7_placeOf_0 11 rfl rfl)
theorem dX7_placeOf_12 : decode cX7_placeOf 12 = .ok (.iload_n 3, 1) := dk_29 (dk_at dksX7_placeOf_0 12 rfl rfl)
theorem dX7_placeOf_13 : decode cX7_placeOf 13 = .ok (.ifCond .le 11, 3) := dk_158 0 11 (dk_at dksX7_placeOf_0 13 rfl rfl)
theorem dX7_placeOf_16 : decode cX7_placeOf 16 = .ok (.aload_n 0, 1) := dk_42 (dk_at dksX7_placeOf_0 16 rfl rfl)
theorem dX7_placeOf_17 : decode cX7_placeOf 17 = .ok (.iload_n 3, 1) := dk_29 (dk_at dksX7_placeOf_0 17 rfl rfl)
theorem dX7_placeOf_18 : decode cX7_placeOf 18 = .ok (.invokevirtual 78, 3) := dk_182 0 78 (dk_at dksX7_placeOf_0 18 rfl rfl)
theorem dX7_placeOf_21 : decode cX7_placeOf 21 = .ok (.goto 27, 3) := dk_167 0 27 (dk_at dksX7_placeOf_0 21 rfl rfl)
theorem dX7_placeOf_24 : decode cX7_placeOf 24 = .ok (.aload_n 0, 1) := dk_42 (dk_at dksX7_placeOf_1 0 rfl rfl)
theorem dX7_placeOf_25 : decode cX7_placeOf 25 = .ok (.iload_n 1, 1) := dk_27 (dk_at dksX7_placeOf_1 1 rfl rfl)
theorem dX7_placeOf_26 : decode cX7_placeOf 26 = .ok (.iload_n 2, 1) := dk_28 (dk_at dksX7_placeOf_1 2 rfl rfl)
theorem dX7_placeOf_27 : decode cX7_placeOf 27 = .ok (.aload_n 0, 1) := dk_42 (dk_at dksX7_placeOf_1 3 rfl rfl)
theorem dX7_placeOf_28 : decode cX7_placeOf 28 = .ok (.getfield 7, 3) := dk_180 0 7 (dk_at dksX7_placeOf_1 4 rfl rfl)
theorem dX7_placeOf_31 : decode cX7_placeOf 31 = .ok (.bipush 60, 2) := dk_16 60 (dk_at dksX7_placeOf_1 7 rfl rfl)
theorem dX7_placeOf_33 : decode cX7_placeOf 33 = .ok (.iload_n 1, 1) := dk_27 (dk_at dksX7_placeOf_1 9 rfl rfl)
theorem dX7_placeOf_34 : decode cX7_placeOf 34 = .ok (.iadd, 1) := dk_96 (dk_at dksX7_placeOf_1 10 rfl rfl)
theorem dX7_placeOf_35 : decode cX7_placeOf 35 = .ok (.iaload, 1) := dk_46 (dk_at dksX7_placeOf_1 11 rfl rfl)
theorem dX7_placeOf_36 : decode cX7_placeOf 36 = .ok (.aload_n 0, 1) := dk_42 (dk_at dksX7_placeOf_1 12 rfl rfl)
theorem dX7_placeOf_37 : decode cX7_placeOf 37 = .ok (.getfield 7, 3) := dk_180 0 7 (dk_at dksX7_placeOf_1 13 rfl rfl)
theorem dX7_placeOf_40 : decode cX7_placeOf 40 = .ok (.bipush 52, 2) := dk_16 52 (dk_at dksX7_placeOf_1 16 rfl rfl)
theorem dX7_placeOf_42 : decode cX7_placeOf 42 = .ok (.iload_n 1, 1) := dk_27 (dk_at dksX7_placeOf_1 18 rfl rfl)
theorem dX7_placeOf_43 : decode cX7_placeOf 43 = .ok (.iadd, 1) := dk_96 (dk_at dksX7_placeOf_1 19 rfl rfl)
theorem dX7_placeOf_44 : decode cX7_placeOf 44 = .ok (.iaload, 1) := dk_46 (dk_at dksX7_placeOf_1 20 rfl rfl)
theorem dX7_placeOf_45 : decode cX7_placeOf 45 = .ok (.invokevirtual 51, 3) := dk_182 0 51 (dk_at dksX7_placeOf_1 21 rfl rfl)
theorem dX7_placeOf_48 : decode cX7_placeOf 48 = .ok (.ireturn, 1) := dk_172 (dk_at dksX7_placeOf_2 0 rfl rfl)
abbrev cX7_packs : ByteArray := prog_13_method_59_code
def yX7_packs : MethodName := ⟨RX7, "packs", "()I"⟩
def dkwX7_packs_0 : List UInt8 := [42, 3, 181, 0, 32, 42, 180, 0, 7, 16, 89, 46, 172]
abbrev dktX7_packs_0 : List UInt8 := dkwX7_packs_0 ++ []
theorem dksX7_packs_0 : cX7_packs.data.toList.drop 0 = dktX7_packs_0 := by decide +kernel
theorem dX7_packs_0 : decode cX7_packs 0 = .ok (.aload_n 0, 1) := dk_42 (dk_at dksX7_packs_0 0 rfl rfl)
theorem dX7_packs_1 : decode cX7_packs 1 = .ok (.iconst 0, 1) := dk_3 (dk_at dksX7_packs_0 1 rfl rfl)
theorem dX7_packs_2 : decode cX7_packs 2 = .ok (.putfield 32, 3) := dk_181 0 32 (dk_at dksX7_packs_0 2 rfl rfl)
theorem dX7_packs_5 : decode cX7_packs 5 = .ok (.aload_n 0, 1) := dk_42 (dk_at dksX7_packs_0 5 rfl rfl)
theorem dX7_packs_6 : decode cX7_packs 6 = .ok (.getfield 7, 3) := dk_180 0 7 (dk_at dksX7_packs_0 6 rfl rfl)
theorem dX7_packs_9 : decode cX7_packs 9 = .ok (.bipush 89, 2) := dk_16 89 (dk_at dksX7_packs_0 9 rfl rfl)
theorem dX7_packs_11 : decode cX7_packs 11 = .ok (.iaload, 1) := dk_46 (dk_at dksX7_packs_0 11 rfl rfl)
theorem dX7_packs_12 : decode cX7_packs 12 = .ok (.ireturn, 1) := dk_172 (dk_at dksX7_packs_0 12 rfl rfl)
abbrev cX7_driveOf : ByteArray := prog_13_method_60_code
def yX7_driveOf : MethodName := ⟨RX7, "driveOf", "(I)I"⟩
def dkwX7_driveOf_1 : List UInt8 := [182, 0, 78, 172]
abbrev dktX7_driveOf_1 : List UInt8 := dkwX7_driveOf_1 ++ []
def dkwX7_driveOf_0 : List UInt8 := [42, 3, 181, 0, 32, 42, 27, 182, 0, 84, 153, 0, 11, 42, 27, 182, 0, 87, 167, 0, 8, 42, 4]
abbrev dktX7_driveOf_0 : List UInt8 := dkwX7_driveOf_0 ++ dktX7_driveOf_1
theorem dksX7_driveOf_0 : cX7_driveOf.data.toList.drop 0 = dktX7_driveOf_0 := by decide +kernel
theorem dksX7_driveOf_1 : cX7_driveOf.data.toList.drop 23 = dktX7_driveOf_1 := dk_seg dksX7_driveOf_0 23 rfl rfl
theorem dX7_driveOf_0 : decode cX7_driveOf 0 = .ok (.aload_n 0, 1) := dk_42 (dk_at dksX7_driveOf_0 0 rfl rfl)
theorem dX7_driveOf_1 : decode cX7_driveOf 1 = .ok (.iconst 0, 1) := dk_3 (dk_at dksX7_driveOf_0 1 rfl rfl)
theorem dX7_driveOf_2 : decode cX7_driveOf 2 = .ok (.putfield 32, 3) := dk_181 0 32 (dk_at dksX7_driveOf_0 2 rfl rfl)
theorem dX7_driveOf_5 : decode cX7_driveOf 5 = .ok (.aload_n 0, 1) := dk_42 (dk_at dksX7_driveOf_0 5 rfl rfl)
theorem dX7_driveOf_6 : decode cX7_driveOf 6 = .ok (.iload_n 1, 1) := dk_27 (dk_at dksX7_driveOf_0 6 rfl rfl)
theorem dX7_driveOf_7 : decode cX7_driveOf 7 = .ok (.invokevirtual 84, 3) := dk_182 0 84 (dk_at dksX7_driveOf_0 7 rfl rfl)
theorem dX7_driveOf_10 : decode cX7_driveOf 10 = .ok (.ifCond .eq 11, 3) := dk_153 0 11 (dk_at dksX7_driveOf_0 10 rfl rfl)
theorem dX7_driveOf_13 : decode cX7_driveOf 13 = .ok (.aload_n 0, 1) := dk_42 (dk_at dksX7_driveOf_0 13 rfl rfl)
theorem dX7_driveOf_14 : decode cX7_driveOf 14 = .ok (.iload_n 1, 1) := dk_27 (dk_at dksX7_driveOf_0 14 rfl rfl)
theorem dX7_driveOf_15 : decode cX7_driveOf 15 = .ok (.invokevirtual 87, 3) := dk_182 0 87 (dk_at dksX7_driveOf_0 15 rfl rfl)
theorem dX7_driveOf_18 : decode cX7_driveOf 18 = .ok (.goto 8, 3) := dk_167 0 8 (dk_at dksX7_driveOf_0 18 rfl rfl)
theorem dX7_driveOf_21 : decode cX7_driveOf 21 = .ok (.aload_n 0, 1) := dk_42 (dk_at dksX7_driveOf_0 21 rfl rfl)
theorem dX7_driveOf_22 : decode cX7_driveOf 22 = .ok (.iconst 1, 1) := dk_4 (dk_at dksX7_driveOf_0 22 rfl rfl)
theorem dX7_driveOf_23 : decode cX7_driveOf 23 = .ok (.invokevirtual 78, 3) := dk_182 0 78 (dk_at dksX7_driveOf_1 0 rfl rfl)
theorem dX7_driveOf_26 : decode cX7_driveOf 26 = .ok (.ireturn, 1) := dk_172 (dk_at dksX7_driveOf_1 3 rfl rfl)
abbrev cX7_baseOf : ByteArray := prog_13_method_61_code
def yX7_baseOf : MethodName := ⟨RX7, "baseOf", "(I)I"⟩
def dkwX7_baseOf_1 : List UInt8 := [167, 0, 8, 42, 4, 182, 0, 78, 172]
abbrev dktX7_baseOf_1 : List UInt8 := dkwX7_baseOf_1 ++ []
def dkwX7_baseOf_0 : List UInt8 := [42, 3, 181, 0, 32, 42, 27, 182, 0, 84, 153, 0, 15, 42, 180, 0, 7, 16, 90, 27, 96, 46]
abbrev dktX7_baseOf_0 : List UInt8 := dkwX7_baseOf_0 ++ dktX7_baseOf_1
theorem dksX7_baseOf_0 : cX7_baseOf.data.toList.drop 0 = dktX7_baseOf_0 := by decide +kernel
theorem dksX7_baseOf_1 : cX7_baseOf.data.toList.drop 22 = dktX7_baseOf_1 := dk_seg dksX7_baseOf_0 22 rfl rfl
theorem dX7_baseOf_0 : decode cX7_baseOf 0 = .ok (.aload_n 0, 1) := dk_42 (dk_at dksX7_baseOf_0 0 rfl rfl)
theorem dX7_baseOf_1 : decode cX7_baseOf 1 = .ok (.iconst 0, 1) := dk_3 (dk_at dksX7_baseOf_0 1 rfl rfl)
theorem dX7_baseOf_2 : decode cX7_baseOf 2 = .ok (.putfield 32, 3) := dk_181 0 32 (dk_at dksX7_baseOf_0 2 rfl rfl)
theorem dX7_baseOf_5 : decode cX7_baseOf 5 = .ok (.aload_n 0, 1) := dk_42 (dk_at dksX7_baseOf_0 5 rfl rfl)
theorem dX7_baseOf_6 : decode cX7_baseOf 6 = .ok (.iload_n 1, 1) := dk_27 (dk_at dksX7_baseOf_0 6 rfl rfl)
theorem dX7_baseOf_7 : decode cX7_baseOf 7 = .ok (.invokevirtual 84, 3) := dk_182 0 84 (dk_at dksX7_baseOf_0 7 rfl rfl)
theorem dX7_baseOf_10 : decode cX7_baseOf 10 = .ok (.ifCond .eq 15, 3) := dk_153 0 15 (dk_at dksX7_baseOf_0 10 rfl rfl)
theorem dX7_baseOf_13 : decode cX7_baseOf 13 = .ok (.aload_n 0, 1) := dk_42 (dk_at dksX7_baseOf_0 13 rfl rfl)
theorem dX7_baseOf_14 : decode cX7_baseOf 14 = .ok (.getfield 7, 3) := dk_180 0 7 (dk_at dksX7_baseOf_0 14 rfl rfl)
theorem dX7_baseOf_17 : decode cX7_baseOf 17 = .ok (.bipush 90, 2) := dk_16 90 (dk_at dksX7_baseOf_0 17 rfl rfl)
theorem dX7_baseOf_19 : decode cX7_baseOf 19 = .ok (.iload_n 1, 1) := dk_27 (dk_at dksX7_baseOf_0 19 rfl rfl)
theorem dX7_baseOf_20 : decode cX7_baseOf 20 = .ok (.iadd, 1) := dk_96 (dk_at dksX7_baseOf_0 20 rfl rfl)
theorem dX7_baseOf_21 : decode cX7_baseOf 21 = .ok (.iaload, 1) := dk_46 (dk_at dksX7_baseOf_0 21 rfl rfl)
theorem dX7_baseOf_22 : decode cX7_baseOf 22 = .ok (.goto 8, 3) := dk_167 0 8 (dk_at dksX7_baseOf_1 0 rfl rfl)
theorem dX7_baseOf_25 : decode cX7_baseOf 25 = .ok (.aload_n 0, 1) := dk_42 (dk_at dksX7_baseOf_1 3 rfl rfl)
theorem dX7_baseOf_26 : decode cX7_baseOf 26 = .ok (.iconst 1, 1) := dk_4 (dk_at dksX7_baseOf_1 4 rfl rfl)
theorem dX7_baseOf_27 : decode cX7_baseOf 27 = .ok (.invokevirtual 78, 3) := dk_182 0 78 (dk_at dksX7_baseOf_1 5 rfl rfl)
theorem dX7_baseOf_30 : decode cX7_baseOf 30 = .ok (.ireturn, 1) := dk_172 (dk_at dksX7_baseOf_1 8 rfl rfl)
abbrev cX7_isScratched : ByteArray := prog_13_method_62_code
def yX7_isScratched : MethodName := ⟨RX7, "isScratched", "(II)Z"⟩
def dkwX7_isScratched_2 : List UInt8 := [182, 0, 111, 172]
abbrev dktX7_isScratched_2 : List UInt8 := dkwX7_isScratched_2 ++ []
def dkwX7_isScratched_1 : List UInt8 := [16, 96, 6, 27, 104, 96, 28, 96, 46, 4, 160, 0, 7, 4, 167, 0, 12, 3, 167, 0, 8, 42, 4]
abbrev dktX7_isScratched_1 : List UInt8 := dkwX7_isScratched_1 ++ dktX7_isScratched_2
def dkwX7_isScratched_0 : List UInt8 := [42, 3, 181, 0, 32, 42, 27, 182, 0, 84, 153, 0, 35, 28, 184, 0, 96, 153, 0, 28, 42, 180, 0, 7]
abbrev dktX7_isScratched_0 : List UInt8 := dkwX7_isScratched_0 ++ dktX7_isScratched_1
theorem dksX7_isScratched_0 : cX7_isScratched.data.toList.drop 0 = dktX7_isScratched_0 := by decide +kernel
theorem dksX7_isScratched_1 : cX7_isScratched.data.toList.drop 24 = dktX7_isScratched_1 := dk_seg dksX7_isScratched_0 24 rfl rfl
theorem dksX7_isScratched_2 : cX7_isScratched.data.toList.drop 47 = dktX7_isScratched_2 := dk_seg dksX7_isScratched_1 23 rfl rfl
theorem dX7_isScratched_0 : decode cX7_isScratched 0 = .ok (.aload_n 0, 1) := dk_42 (dk_at dksX7_isScratched_0 0 rfl rfl)
theorem dX7_isScratched_1 : decode cX7_isScratched 1 = .ok (.iconst 0, 1) := dk_3 (dk_at dksX7_isScratched_0 1 rfl rfl)
theorem dX7_isScratched_2 : decode cX7_isScratched 2 = .ok (.putfield 32, 3) := dk_181 0 32 (dk_at dksX7_isScratched_0 2 rfl rfl)
theorem dX7_isScratched_5 : decode cX7_isScratched 5 = .ok (.aload_n 0, 1) := dk_42 (dk_at dksX7_isScratched_0 5 rfl rfl)
theorem dX7_isScratched_6 : decode cX7_isScratched 6 = .ok (.iload_n 1, 1) := dk_27 (dk_at dksX7_isScratched_0 6 rfl rfl)
theorem dX7_isScratched_7 : decode cX7_isScratched 7 = .ok (.invokevirtual 84, 3) := dk_182 0 84 (dk_at dksX7_isScratched_0 7 rfl rfl)
theorem dX7_isScratched_10 : decode cX7_isScratched 10 = .ok (.ifCond .eq 35, 3) := dk_153 0 35 (dk_at dksX7_isScratched_0 10 rfl rfl)
theorem dX7_isScratched_13 : decode cX7_isScratched 13 = .ok (.iload_n 2, 1) := dk_28 (dk_at dksX7_isScratched_0 13 rfl rfl)
theorem dX7_isScratched_14 : decode cX7_isScratched 14 = .ok (.invokestatic 96, 3) := dk_184 0 96 (dk_at dksX7_isScratched_0 14 rfl rfl)
theorem dX7_isScratched_17 : decode cX7_isScratched 17 = .ok (.ifCond .eq 28, 3) := dk_153 0 28 (dk_at dksX7_isScratched_0 17 rfl rfl)
theorem dX7_isScratched_20 : decode cX7_isScratched 20 = .ok (.aload_n 0, 1) := dk_42 (dk_at dksX7_isScratched_0 20 rfl rfl)
theorem dX7_isScratched_21 : decode cX7_isScratched 21 = .ok (.getfield 7, 3) := dk_180 0 7 (dk_at dksX7_isScratched_0 21 rfl rfl)
theorem dX7_isScratched_24 : decode cX7_isScratched 24 = .ok (.bipush 96, 2) := dk_16 96 (dk_at dksX7_isScratched_1 0 rfl rfl)
theorem dX7_isScratched_26 : decode cX7_isScratched 26 = .ok (.iconst 3, 1) := dk_6 (dk_at dksX7_isScratched_1 2 rfl rfl)
theorem dX7_isScratched_27 : decode cX7_isScratched 27 = .ok (.iload_n 1, 1) := dk_27 (dk_at dksX7_isScratched_1 3 rfl rfl)
theorem dX7_isScratched_28 : decode cX7_isScratched 28 = .ok (.imul, 1) := dk_104 (dk_at dksX7_isScratched_1 4 rfl rfl)
theorem dX7_isScratched_29 : decode cX7_isScratched 29 = .ok (.iadd, 1) := dk_96 (dk_at dksX7_isScratched_1 5 rfl rfl)
theorem dX7_isScratched_30 : decode cX7_isScratched 30 = .ok (.iload_n 2, 1) := dk_28 (dk_at dksX7_isScratched_1 6 rfl rfl)
theorem dX7_isScratched_31 : decode cX7_isScratched 31 = .ok (.iadd, 1) := dk_96 (dk_at dksX7_isScratched_1 7 rfl rfl)
theorem dX7_isScratched_32 : decode cX7_isScratched 32 = .ok (.iaload, 1) := dk_46 (dk_at dksX7_isScratched_1 8 rfl rfl)
theorem dX7_isScratched_33 : decode cX7_isScratched 33 = .ok (.iconst 1, 1) := dk_4 (dk_at dksX7_isScratched_1 9 rfl rfl)
theorem dX7_isScratched_34 : decode cX7_isScratched 34 = .ok (.if_icmp .ne 7, 3) := dk_160 0 7 (dk_at dksX7_isScratched_1 10 rfl rfl)
theorem dX7_isScratched_37 : decode cX7_isScratched 37 = .ok (.iconst 1, 1) := dk_4 (dk_at dksX7_isScratched_1 13 rfl rfl)
theorem dX7_isScratched_38 : decode cX7_isScratched 38 = .ok (.goto 12, 3) := dk_167 0 12 (dk_at dksX7_isScratched_1 14 rfl rfl)
theorem dX7_isScratched_41 : decode cX7_isScratched 41 = .ok (.iconst 0, 1) := dk_3 (dk_at dksX7_isScratched_1 17 rfl rfl)
theorem dX7_isScratched_42 : decode cX7_isScratched 42 = .ok (.goto 8, 3) := dk_167 0 8 (dk_at dksX7_isScratched_1 18 rfl rfl)
theorem dX7_isScratched_45 : decode cX7_isScratched 45 = .ok (.aload_n 0, 1) := dk_42 (dk_at dksX7_isScratched_1 21 rfl rfl)
theorem dX7_isScratched_46 : decode cX7_isScratched 46 = .ok (.iconst 1, 1) := dk_4 (dk_at dksX7_isScratched_1 22 rfl rfl)
theorem dX7_isScratched_47 : decode cX7_isScratched 47 = .ok (.invokevirtual 111, 3) := dk_182 0 111 (dk_at dksX7_isScratched_2 0 rfl rfl)
theorem dX7_isScratched_50 : decode cX7_isScratched 50 = .ok (.ireturn, 1) := dk_172 (dk_at dksX7_isScratched_2 3 rfl rfl)
abbrev cX7_valueOf : ByteArray := prog_13_method_64_code
def yX7_valueOf : MethodName := ⟨RX7, "valueOf", "(III)I"⟩
def dkwX7_valueOf_1 : List UInt8 := [16, 126, 21, 4, 96, 46, 172]
abbrev dktX7_valueOf_1 : List UInt8 := dkwX7_valueOf_1 ++ []
def dkwX7_valueOf_0 : List UInt8 := [42, 27, 28, 29, 182, 0, 153, 54, 4, 21, 4, 2, 160, 0, 7, 3, 167, 0, 13, 42, 180, 0, 7]
abbrev dktX7_valueOf_0 : List UInt8 := dkwX7_valueOf_0 ++ dktX7_valueOf_1
theorem dksX7_valueOf_0 : cX7_valueOf.data.toList.drop 0 = dktX7_valueOf_0 := by decide +kernel
theorem dksX7_valueOf_1 : cX7_valueOf.data.toList.drop 23 = dktX7_valueOf_1 := dk_seg dksX7_valueOf_0 23 rfl rfl
theorem dX7_valueOf_0 : decode cX7_valueOf 0 = .ok (.aload_n 0, 1) := dk_42 (dk_at dksX7_valueOf_0 0 rfl rfl)
theorem dX7_valueOf_1 : decode cX7_valueOf 1 = .ok (.iload_n 1, 1) := dk_27 (dk_at dksX7_valueOf_0 1 rfl rfl)
theorem dX7_valueOf_2 : decode cX7_valueOf 2 = .ok (.iload_n 2, 1) := dk_28 (dk_at dksX7_valueOf_0 2 rfl rfl)
theorem dX7_valueOf_3 : decode cX7_valueOf 3 = .ok (.iload_n 3, 1) := dk_29 (dk_at dksX7_valueOf_0 3 rfl rfl)
theorem dX7_valueOf_4 : decode cX7_valueOf 4 = .ok (.invokevirtual 153, 3) := dk_182 0 153 (dk_at dksX7_valueOf_0 4 rfl rfl)
theorem dX7_valueOf_7 : decode cX7_valueOf 7 = .ok (.istore 4, 2) := dk_54 4 (dk_at dksX7_valueOf_0 7 rfl rfl)
theorem dX7_valueOf_9 : decode cX7_valueOf 9 = .ok (.iload 4, 2) := dk_21 4 (dk_at dksX7_valueOf_0 9 rfl rfl)
theorem dX7_valueOf_11 : decode cX7_valueOf 11 = .ok (.iconst (-1), 1) := dk_2 (dk_at dksX7_valueOf_0 11 rfl rfl)
theorem dX7_valueOf_12 : decode cX7_valueOf 12 = .ok (.if_icmp .ne 7, 3) := dk_160 0 7 (dk_at dksX7_valueOf_0 12 rfl rfl)
theorem dX7_valueOf_15 : decode cX7_valueOf 15 = .ok (.iconst 0, 1) := dk_3 (dk_at dksX7_valueOf_0 15 rfl rfl)
theorem dX7_valueOf_16 : decode cX7_valueOf 16 = .ok (.goto 13, 3) := dk_167 0 13 (dk_at dksX7_valueOf_0 16 rfl rfl)
theorem dX7_valueOf_19 : decode cX7_valueOf 19 = .ok (.aload_n 0, 1) := dk_42 (dk_at dksX7_valueOf_0 19 rfl rfl)
theorem dX7_valueOf_20 : decode cX7_valueOf 20 = .ok (.getfield 7, 3) := dk_180 0 7 (dk_at dksX7_valueOf_0 20 rfl rfl)
theorem dX7_valueOf_23 : decode cX7_valueOf 23 = .ok (.bipush 126, 2) := dk_16 126 (dk_at dksX7_valueOf_1 0 rfl rfl)
theorem dX7_valueOf_25 : decode cX7_valueOf 25 = .ok (.iload 4, 2) := dk_21 4 (dk_at dksX7_valueOf_1 2 rfl rfl)
theorem dX7_valueOf_27 : decode cX7_valueOf 27 = .ok (.iadd, 1) := dk_96 (dk_at dksX7_valueOf_1 4 rfl rfl)
theorem dX7_valueOf_28 : decode cX7_valueOf 28 = .ok (.iaload, 1) := dk_46 (dk_at dksX7_valueOf_1 5 rfl rfl)
theorem dX7_valueOf_29 : decode cX7_valueOf 29 = .ok (.ireturn, 1) := dk_172 (dk_at dksX7_valueOf_1 6 rfl rfl)
abbrev cX7_trackAt : ByteArray := prog_13_method_63_code
def yX7_trackAt : MethodName := ⟨RX7, "trackAt", "(III)I"⟩
def dkwX7_trackAt_2 : List UInt8 := [172]
abbrev dktX7_trackAt_2 : List UInt8 := dkwX7_trackAt_2 ++ []
def dkwX7_trackAt_1 : List UInt8 := [167, 0, 4, 4, 181, 0, 32, 42, 180, 0, 32, 154, 0, 12, 27, 28, 29, 184, 0, 47, 167, 0, 4, 2]
abbrev dktX7_trackAt_1 : List UInt8 := dkwX7_trackAt_1 ++ dktX7_trackAt_2
def dkwX7_trackAt_0 : List UInt8 := [42, 42, 27, 182, 0, 84, 153, 0, 21, 28, 184, 0, 96, 153, 0, 14, 29, 184, 0, 90, 153, 0, 7, 3]
abbrev dktX7_trackAt_0 : List UInt8 := dkwX7_trackAt_0 ++ dktX7_trackAt_1
theorem dksX7_trackAt_0 : cX7_trackAt.data.toList.drop 0 = dktX7_trackAt_0 := by decide +kernel
theorem dksX7_trackAt_1 : cX7_trackAt.data.toList.drop 24 = dktX7_trackAt_1 := dk_seg dksX7_trackAt_0 24 rfl rfl
theorem dksX7_trackAt_2 : cX7_trackAt.data.toList.drop 48 = dktX7_trackAt_2 := dk_seg dksX7_trackAt_1 24 rfl rfl
theorem dX7_trackAt_0 : decode cX7_trackAt 0 = .ok (.aload_n 0, 1) := dk_42 (dk_at dksX7_trackAt_0 0 rfl rfl)
theorem dX7_trackAt_1 : decode cX7_trackAt 1 = .ok (.aload_n 0, 1) := dk_42 (dk_at dksX7_trackAt_0 1 rfl rfl)
theorem dX7_trackAt_2 : decode cX7_trackAt 2 = .ok (.iload_n 1, 1) := dk_27 (dk_at dksX7_trackAt_0 2 rfl rfl)
theorem dX7_trackAt_3 : decode cX7_trackAt 3 = .ok (.invokevirtual 84, 3) := dk_182 0 84 (dk_at dksX7_trackAt_0 3 rfl rfl)
theorem dX7_trackAt_6 : decode cX7_trackAt 6 = .ok (.ifCond .eq 21, 3) := dk_153 0 21 (dk_at dksX7_trackAt_0 6 rfl rfl)
theorem dX7_trackAt_9 : decode cX7_trackAt 9 = .ok (.iload_n 2, 1) := dk_28 (dk_at dksX7_trackAt_0 9 rfl rfl)
theorem dX7_trackAt_10 : decode cX7_trackAt 10 = .ok (.invokestatic 96, 3) := dk_184 0 96 (dk_at dksX7_trackAt_0 10 rfl rfl)
theorem dX7_trackAt_13 : decode cX7_trackAt 13 = .ok (.ifCond .eq 14, 3) := dk_153 0 14 (dk_at dksX7_trackAt_0 13 rfl rfl)
theorem dX7_trackAt_16 : decode cX7_trackAt 16 = .ok (.iload_n 3, 1) := dk_29 (dk_at dksX7_trackAt_0 16 rfl rfl)
theorem dX7_trackAt_17 : decode cX7_trackAt 17 = .ok (.invokestatic 90, 3) := dk_184 0 90 (dk_at dksX7_trackAt_0 17 rfl rfl)
theorem dX7_trackAt_20 : decode cX7_trackAt 20 = .ok (.ifCond .eq 7, 3) := dk_153 0 7 (dk_at dksX7_trackAt_0 20 rfl rfl)
theorem dX7_trackAt_23 : decode cX7_trackAt 23 = .ok (.iconst 0, 1) := dk_3 (dk_at dksX7_trackAt_0 23 rfl rfl)
theorem dX7_trackAt_24 : decode cX7_trackAt 24 = .ok (.goto 4, 3) := dk_167 0 4 (dk_at dksX7_trackAt_1 0 rfl rfl)
theorem dX7_trackAt_27 : decode cX7_trackAt 27 = .ok (.iconst 1, 1) := dk_4 (dk_at dksX7_trackAt_1 3 rfl rfl)
theorem dX7_trackAt_28 : decode cX7_trackAt 28 = .ok (.putfield 32, 3) := dk_181 0 32 (dk_at dksX7_trackAt_1 4 rfl rfl)
theorem dX7_trackAt_31 : decode cX7_trackAt 31 = .ok (.aload_n 0, 1) := dk_42 (dk_at dksX7_trackAt_1 7 rfl rfl)
theorem dX7_trackAt_32 : decode cX7_trackAt 32 = .ok (.getfield 32, 3) := dk_180 0 32 (dk_at dksX7_trackAt_1 8 rfl rfl)
theorem dX7_trackAt_35 : decode cX7_trackAt 35 = .ok (.ifCond .ne 12, 3) := dk_154 0 12 (dk_at dksX7_trackAt_1 11 rfl rfl)
theorem dX7_trackAt_38 : decode cX7_trackAt 38 = .ok (.iload_n 1, 1) := dk_27 (dk_at dksX7_trackAt_1 14 rfl rfl)
theorem dX7_trackAt_39 : decode cX7_trackAt 39 = .ok (.iload_n 2, 1) := dk_28 (dk_at dksX7_trackAt_1 15 rfl rfl)
theorem dX7_trackAt_40 : decode cX7_trackAt 40 = .ok (.iload_n 3, 1) := dk_29 (dk_at dksX7_trackAt_1 16 rfl rfl)
theorem dX7_trackAt_41 : decode cX7_trackAt 41 = .ok (.invokestatic 47, 3) := dk_184 0 47 (dk_at dksX7_trackAt_1 17 rfl rfl)
theorem dX7_trackAt_44 : decode cX7_trackAt 44 = .ok (.goto 4, 3) := dk_167 0 4 (dk_at dksX7_trackAt_1 20 rfl rfl)
theorem dX7_trackAt_47 : decode cX7_trackAt 47 = .ok (.iconst (-1), 1) := dk_2 (dk_at dksX7_trackAt_1 23 rfl rfl)
theorem dX7_trackAt_48 : decode cX7_trackAt 48 = .ok (.ireturn, 1) := dk_172 (dk_at dksX7_trackAt_2 0 rfl rfl)
abbrev cX7_positionOf : ByteArray := prog_13_method_65_code
def yX7_positionOf : MethodName := ⟨RX7, "positionOf", "(III)I"⟩
def dkwX7_positionOf_2 : List UInt8 := [21, 4, 96, 46, 172]
abbrev dktX7_positionOf_2 : List UInt8 := dkwX7_positionOf_2 ++ []
def dkwX7_positionOf_1 : List UInt8 := [21, 4, 96, 46, 2, 160, 0, 11, 42, 5, 182, 0, 78, 167, 0, 14, 42, 180, 0, 7, 17, 3, 78]
abbrev dktX7_positionOf_1 : List UInt8 := dkwX7_positionOf_1 ++ dktX7_positionOf_2
def dkwX7_positionOf_0 : List UInt8 := [42, 27, 28, 29, 182, 0, 153, 54, 4, 21, 4, 2, 160, 0, 5, 3, 172, 42, 180, 0, 7, 16, 126]
abbrev dktX7_positionOf_0 : List UInt8 := dkwX7_positionOf_0 ++ dktX7_positionOf_1
theorem dksX7_positionOf_0 : cX7_positionOf.data.toList.drop 0 = dktX7_positionOf_0 := by decide +kernel
theorem dksX7_positionOf_1 : cX7_positionOf.data.toList.drop 23 = dktX7_positionOf_1 := dk_seg dksX7_positionOf_0 23 rfl rfl
theorem dksX7_positionOf_2 : cX7_positionOf.data.toList.drop 46 = dktX7_positionOf_2 := dk_seg dksX7_positionOf_1 23 rfl rfl
theorem dX7_positionOf_0 : decode cX7_positionOf 0 = .ok (.aload_n 0, 1) := dk_42 (dk_at dksX7_positionOf_0 0 rfl rfl)
theorem dX7_positionOf_1 : decode cX7_positionOf 1 = .ok (.iload_n 1, 1) := dk_27 (dk_at dksX7_positionOf_0 1 rfl rfl)
theorem dX7_positionOf_2 : decode cX7_positionOf 2 = .ok (.iload_n 2, 1) := dk_28 (dk_at dksX7_positionOf_0 2 rfl rfl)
theorem dX7_positionOf_3 : decode cX7_positionOf 3 = .ok (.iload_n 3, 1) := dk_29 (dk_at dksX7_positionOf_0 3 rfl rfl)
theorem dX7_positionOf_4 : decode cX7_positionOf 4 = .ok (.invokevirtual 153, 3) := dk_182 0 153 (dk_at dksX7_positionOf_0 4 rfl rfl)
theorem dX7_positionOf_7 : decode cX7_positionOf 7 = .ok (.istore 4, 2) := dk_54 4 (dk_at dksX7_positionOf_0 7 rfl rfl)
theorem dX7_positionOf_9 : decode cX7_positionOf 9 = .ok (.iload 4, 2) := dk_21 4 (dk_at dksX7_positionOf_0 9 rfl rfl)
theorem dX7_positionOf_11 : decode cX7_positionOf 11 = .ok (.iconst (-1), 1) := dk_2 (dk_at dksX7_positionOf_0 11 rfl rfl)
theorem dX7_positionOf_12 : decode cX7_positionOf 12 = .ok (.if_icmp .ne 5, 3) := dk_160 0 5 (dk_at dksX7_positionOf_0 12 rfl rfl)
theorem dX7_positionOf_15 : decode cX7_positionOf 15 = .ok (.iconst 0, 1) := dk_3 (dk_at dksX7_positionOf_0 15 rfl rfl)
theorem dX7_positionOf_16 : decode cX7_positionOf 16 = .ok (.ireturn, 1) := dk_172 (dk_at dksX7_positionOf_0 16 rfl rfl)
theorem dX7_positionOf_17 : decode cX7_positionOf 17 = .ok (.aload_n 0, 1) := dk_42 (dk_at dksX7_positionOf_0 17 rfl rfl)
theorem dX7_positionOf_18 : decode cX7_positionOf 18 = .ok (.getfield 7, 3) := dk_180 0 7 (dk_at dksX7_positionOf_0 18 rfl rfl)
theorem dX7_positionOf_21 : decode cX7_positionOf 21 = .ok (.bipush 126, 2) := dk_16 126 (dk_at dksX7_positionOf_0 21 rfl rfl)
theorem dX7_positionOf_23 : decode cX7_positionOf 23 = .ok (.iload 4, 2) := dk_21 4 (dk_at dksX7_positionOf_1 0 rfl rfl)
theorem dX7_positionOf_25 : decode cX7_positionOf 25 = .ok (.iadd, 1) := dk_96 (dk_at dksX7_positionOf_1 2 rfl rfl)
theorem dX7_positionOf_26 : decode cX7_positionOf 26 = .ok (.iaload, 1) := dk_46 (dk_at dksX7_positionOf_1 3 rfl rfl)
theorem dX7_positionOf_27 : decode cX7_positionOf 27 = .ok (.iconst (-1), 1) := dk_2 (dk_at dksX7_positionOf_1 4 rfl rfl)
theorem dX7_positionOf_28 : decode cX7_positionOf 28 = .ok (.if_icmp .ne 11, 3) := dk_160 0 11 (dk_at dksX7_positionOf_1 5 rfl rfl)
theorem dX7_positionOf_31 : decode cX7_positionOf 31 = .ok (.aload_n 0, 1) := dk_42 (dk_at dksX7_positionOf_1 8 rfl rfl)
theorem dX7_positionOf_32 : decode cX7_positionOf 32 = .ok (.iconst 2, 1) := dk_5 (dk_at dksX7_positionOf_1 9 rfl rfl)
theorem dX7_positionOf_33 : decode cX7_positionOf 33 = .ok (.invokevirtual 78, 3) := dk_182 0 78 (dk_at dksX7_positionOf_1 10 rfl rfl)
theorem dX7_positionOf_36 : decode cX7_positionOf 36 = .ok (.goto 14, 3) := dk_167 0 14 (dk_at dksX7_positionOf_1 13 rfl rfl)
theorem dX7_positionOf_39 : decode cX7_positionOf 39 = .ok (.aload_n 0, 1) := dk_42 (dk_at dksX7_positionOf_1 16 rfl rfl)
theorem dX7_positionOf_40 : decode cX7_positionOf 40 = .ok (.getfield 7, 3) := dk_180 0 7 (dk_at dksX7_positionOf_1 17 rfl rfl)
theorem dX7_positionOf_43 : decode cX7_positionOf 43 = .ok (.sipush 846, 3) := dk_17 3 78 (dk_at dksX7_positionOf_1 20 rfl rfl)
theorem dX7_positionOf_46 : decode cX7_positionOf 46 = .ok (.iload 4, 2) := dk_21 4 (dk_at dksX7_positionOf_2 0 rfl rfl)
theorem dX7_positionOf_48 : decode cX7_positionOf 48 = .ok (.iadd, 1) := dk_96 (dk_at dksX7_positionOf_2 2 rfl rfl)
theorem dX7_positionOf_49 : decode cX7_positionOf 49 = .ok (.iaload, 1) := dk_46 (dk_at dksX7_positionOf_2 3 rfl rfl)
theorem dX7_positionOf_50 : decode cX7_positionOf 50 = .ok (.ireturn, 1) := dk_172 (dk_at dksX7_positionOf_2 4 rfl rfl)
abbrev cX7_strengthOf : ByteArray := prog_13_method_66_code
def yX7_strengthOf : MethodName := ⟨RX7, "strengthOf", "(III)F"⟩
def dkwX7_strengthOf_1 : List UInt8 := [21, 4, 48, 174]
abbrev dktX7_strengthOf_1 : List UInt8 := dkwX7_strengthOf_1 ++ []
def dkwX7_strengthOf_0 : List UInt8 := [42, 27, 28, 29, 182, 0, 153, 54, 4, 21, 4, 2, 160, 0, 7, 11, 167, 0, 10, 42, 180, 0, 13]
abbrev dktX7_strengthOf_0 : List UInt8 := dkwX7_strengthOf_0 ++ dktX7_strengthOf_1
theorem dksX7_strengthOf_0 : cX7_strengthOf.data.toList.drop 0 = dktX7_strengthOf_0 := by decide +kernel
theorem dksX7_strengthOf_1 : cX7_strengthOf.data.toList.drop 23 = dktX7_strengthOf_1 := dk_seg dksX7_strengthOf_0 23 rfl rfl
theorem dX7_strengthOf_0 : decode cX7_strengthOf 0 = .ok (.aload_n 0, 1) := dk_42 (dk_at dksX7_strengthOf_0 0 rfl rfl)
theorem dX7_strengthOf_1 : decode cX7_strengthOf 1 = .ok (.iload_n 1, 1) := dk_27 (dk_at dksX7_strengthOf_0 1 rfl rfl)
theorem dX7_strengthOf_2 : decode cX7_strengthOf 2 = .ok (.iload_n 2, 1) := dk_28 (dk_at dksX7_strengthOf_0 2 rfl rfl)
theorem dX7_strengthOf_3 : decode cX7_strengthOf 3 = .ok (.iload_n 3, 1) := dk_29 (dk_at dksX7_strengthOf_0 3 rfl rfl)
theorem dX7_strengthOf_4 : decode cX7_strengthOf 4 = .ok (.invokevirtual 153, 3) := dk_182 0 153 (dk_at dksX7_strengthOf_0 4 rfl rfl)
theorem dX7_strengthOf_7 : decode cX7_strengthOf 7 = .ok (.istore 4, 2) := dk_54 4 (dk_at dksX7_strengthOf_0 7 rfl rfl)
theorem dX7_strengthOf_9 : decode cX7_strengthOf 9 = .ok (.iload 4, 2) := dk_21 4 (dk_at dksX7_strengthOf_0 9 rfl rfl)
theorem dX7_strengthOf_11 : decode cX7_strengthOf 11 = .ok (.iconst (-1), 1) := dk_2 (dk_at dksX7_strengthOf_0 11 rfl rfl)
theorem dX7_strengthOf_12 : decode cX7_strengthOf 12 = .ok (.if_icmp .ne 7, 3) := dk_160 0 7 (dk_at dksX7_strengthOf_0 12 rfl rfl)
theorem dX7_strengthOf_15 : decode cX7_strengthOf 15 = .ok (.fconst 0, 1) := dk_11 (dk_at dksX7_strengthOf_0 15 rfl rfl)
theorem dX7_strengthOf_16 : decode cX7_strengthOf 16 = .ok (.goto 10, 3) := dk_167 0 10 (dk_at dksX7_strengthOf_0 16 rfl rfl)
theorem dX7_strengthOf_19 : decode cX7_strengthOf 19 = .ok (.aload_n 0, 1) := dk_42 (dk_at dksX7_strengthOf_0 19 rfl rfl)
theorem dX7_strengthOf_20 : decode cX7_strengthOf 20 = .ok (.getfield 13, 3) := dk_180 0 13 (dk_at dksX7_strengthOf_0 20 rfl rfl)
theorem dX7_strengthOf_23 : decode cX7_strengthOf 23 = .ok (.iload 4, 2) := dk_21 4 (dk_at dksX7_strengthOf_1 0 rfl rfl)
theorem dX7_strengthOf_25 : decode cX7_strengthOf 25 = .ok (.faload, 1) := dk_48 (dk_at dksX7_strengthOf_1 2 rfl rfl)
theorem dX7_strengthOf_26 : decode cX7_strengthOf 26 = .ok (.freturn, 1) := dk_174 (dk_at dksX7_strengthOf_1 3 rfl rfl)
abbrev cX7_writtenOn : ByteArray := prog_13_method_67_code
def yX7_writtenOn : MethodName := ⟨RX7, "writtenOn", "(I)I"⟩
def dkwX7_writtenOn_2 : List UInt8 := [96, 46, 2, 160, 0, 7, 3, 167, 0, 4, 4, 96, 61, 132, 3, 1, 167, 255, 220, 28, 172]
abbrev dktX7_writtenOn_2 : List UInt8 := dkwX7_writtenOn_2 ++ []
def dkwX7_writtenOn_1 : List UInt8 := [184, 0, 47, 62, 29, 27, 4, 96, 3, 3, 184, 0, 47, 162, 0, 30, 28, 42, 180, 0, 7, 16, 126, 29]
abbrev dktX7_writtenOn_1 : List UInt8 := dkwX7_writtenOn_1 ++ dktX7_writtenOn_2
def dkwX7_writtenOn_0 : List UInt8 := [42, 3, 181, 0, 32, 42, 27, 182, 0, 84, 154, 0, 9, 42, 4, 182, 0, 78, 172, 3, 61, 27, 3, 3]
abbrev dktX7_writtenOn_0 : List UInt8 := dkwX7_writtenOn_0 ++ dktX7_writtenOn_1
theorem dksX7_writtenOn_0 : cX7_writtenOn.data.toList.drop 0 = dktX7_writtenOn_0 := by decide +kernel
theorem dksX7_writtenOn_1 : cX7_writtenOn.data.toList.drop 24 = dktX7_writtenOn_1 := dk_seg dksX7_writtenOn_0 24 rfl rfl
theorem dksX7_writtenOn_2 : cX7_writtenOn.data.toList.drop 48 = dktX7_writtenOn_2 := dk_seg dksX7_writtenOn_1 24 rfl rfl
theorem dX7_writtenOn_0 : decode cX7_writtenOn 0 = .ok (.aload_n 0, 1) := dk_42 (dk_at dksX7_writtenOn_0 0 rfl rfl)
theorem dX7_writtenOn_1 : decode cX7_writtenOn 1 = .ok (.iconst 0, 1) := dk_3 (dk_at dksX7_writtenOn_0 1 rfl rfl)
theorem dX7_writtenOn_2 : decode cX7_writtenOn 2 = .ok (.putfield 32, 3) := dk_181 0 32 (dk_at dksX7_writtenOn_0 2 rfl rfl)
theorem dX7_writtenOn_5 : decode cX7_writtenOn 5 = .ok (.aload_n 0, 1) := dk_42 (dk_at dksX7_writtenOn_0 5 rfl rfl)
theorem dX7_writtenOn_6 : decode cX7_writtenOn 6 = .ok (.iload_n 1, 1) := dk_27 (dk_at dksX7_writtenOn_0 6 rfl rfl)
theorem dX7_writtenOn_7 : decode cX7_writtenOn 7 = .ok (.invokevirtual 84, 3) := dk_182 0 84 (dk_at dksX7_writtenOn_0 7 rfl rfl)
theorem dX7_writtenOn_10 : decode cX7_writtenOn 10 = .ok (.ifCond .ne 9, 3) := dk_154 0 9 (dk_at dksX7_writtenOn_0 10 rfl rfl)
theorem dX7_writtenOn_13 : decode cX7_writtenOn 13 = .ok (.aload_n 0, 1) := dk_42 (dk_at dksX7_writtenOn_0 13 rfl rfl)
theorem dX7_writtenOn_14 : decode cX7_writtenOn 14 = .ok (.iconst 1, 1) := dk_4 (dk_at dksX7_writtenOn_0 14 rfl rfl)
theorem dX7_writtenOn_15 : decode cX7_writtenOn 15 = .ok (.invokevirtual 78, 3) := dk_182 0 78 (dk_at dksX7_writtenOn_0 15 rfl rfl)
theorem dX7_writtenOn_18 : decode cX7_writtenOn 18 = .ok (.ireturn, 1) := dk_172 (dk_at dksX7_writtenOn_0 18 rfl rfl)
theorem dX7_writtenOn_19 : decode cX7_writtenOn 19 = .ok (.iconst 0, 1) := dk_3 (dk_at dksX7_writtenOn_0 19 rfl rfl)
theorem dX7_writtenOn_20 : decode cX7_writtenOn 20 = .ok (.istore_n 2, 1) := dk_61 (dk_at dksX7_writtenOn_0 20 rfl rfl)
theorem dX7_writtenOn_21 : decode cX7_writtenOn 21 = .ok (.iload_n 1, 1) := dk_27 (dk_at dksX7_writtenOn_0 21 rfl rfl)
theorem dX7_writtenOn_22 : decode cX7_writtenOn 22 = .ok (.iconst 0, 1) := dk_3 (dk_at dksX7_writtenOn_0 22 rfl rfl)
theorem dX7_writtenOn_23 : decode cX7_writtenOn 23 = .ok (.iconst 0, 1) := dk_3 (dk_at dksX7_writtenOn_0 23 rfl rfl)
theorem dX7_writtenOn_24 : decode cX7_writtenOn 24 = .ok (.invokestatic 47, 3) := dk_184 0 47 (dk_at dksX7_writtenOn_1 0 rfl rfl)
theorem dX7_writtenOn_27 : decode cX7_writtenOn 27 = .ok (.istore_n 3, 1) := dk_62 (dk_at dksX7_writtenOn_1 3 rfl rfl)
theorem dX7_writtenOn_28 : decode cX7_writtenOn 28 = .ok (.iload_n 3, 1) := dk_29 (dk_at dksX7_writtenOn_1 4 rfl rfl)
theorem dX7_writtenOn_29 : decode cX7_writtenOn 29 = .ok (.iload_n 1, 1) := dk_27 (dk_at dksX7_writtenOn_1 5 rfl rfl)
theorem dX7_writtenOn_30 : decode cX7_writtenOn 30 = .ok (.iconst 1, 1) := dk_4 (dk_at dksX7_writtenOn_1 6 rfl rfl)
theorem dX7_writtenOn_31 : decode cX7_writtenOn 31 = .ok (.iadd, 1) := dk_96 (dk_at dksX7_writtenOn_1 7 rfl rfl)
theorem dX7_writtenOn_32 : decode cX7_writtenOn 32 = .ok (.iconst 0, 1) := dk_3 (dk_at dksX7_writtenOn_1 8 rfl rfl)
theorem dX7_writtenOn_33 : decode cX7_writtenOn 33 = .ok (.iconst 0, 1) := dk_3 (dk_at dksX7_writtenOn_1 9 rfl rfl)
theorem dX7_writtenOn_34 : decode cX7_writtenOn 34 = .ok (.invokestatic 47, 3) := dk_184 0 47 (dk_at dksX7_writtenOn_1 10 rfl rfl)
theorem dX7_writtenOn_37 : decode cX7_writtenOn 37 = .ok (.if_icmp .ge 30, 3) := dk_162 0 30 (dk_at dksX7_writtenOn_1 13 rfl rfl)
theorem dX7_writtenOn_40 : decode cX7_writtenOn 40 = .ok (.iload_n 2, 1) := dk_28 (dk_at dksX7_writtenOn_1 16 rfl rfl)
theorem dX7_writtenOn_41 : decode cX7_writtenOn 41 = .ok (.aload_n 0, 1) := dk_42 (dk_at dksX7_writtenOn_1 17 rfl rfl)
theorem dX7_writtenOn_42 : decode cX7_writtenOn 42 = .ok (.getfield 7, 3) := dk_180 0 7 (dk_at dksX7_writtenOn_1 18 rfl rfl)
theorem dX7_writtenOn_45 : decode cX7_writtenOn 45 = .ok (.bipush 126, 2) := dk_16 126 (dk_at dksX7_writtenOn_1 21 rfl rfl)
theorem dX7_writtenOn_47 : decode cX7_writtenOn 47 = .ok (.iload_n 3, 1) := dk_29 (dk_at dksX7_writtenOn_1 23 rfl rfl)
theorem dX7_writtenOn_48 : decode cX7_writtenOn 48 = .ok (.iadd, 1) := dk_96 (dk_at dksX7_writtenOn_2 0 rfl rfl)
theorem dX7_writtenOn_49 : decode cX7_writtenOn 49 = .ok (.iaload, 1) := dk_46 (dk_at dksX7_writtenOn_2 1 rfl rfl)
theorem dX7_writtenOn_50 : decode cX7_writtenOn 50 = .ok (.iconst (-1), 1) := dk_2 (dk_at dksX7_writtenOn_2 2 rfl rfl)
theorem dX7_writtenOn_51 : decode cX7_writtenOn 51 = .ok (.if_icmp .ne 7, 3) := dk_160 0 7 (dk_at dksX7_writtenOn_2 3 rfl rfl)
theorem dX7_writtenOn_54 : decode cX7_writtenOn 54 = .ok (.iconst 0, 1) := dk_3 (dk_at dksX7_writtenOn_2 6 rfl rfl)
theorem dX7_writtenOn_55 : decode cX7_writtenOn 55 = .ok (.goto 4, 3) := dk_167 0 4 (dk_at dksX7_writtenOn_2 7 rfl rfl)
theorem dX7_writtenOn_58 : decode cX7_writtenOn 58 = .ok (.iconst 1, 1) := dk_4 (dk_at dksX7_writtenOn_2 10 rfl rfl)
theorem dX7_writtenOn_59 : decode cX7_writtenOn 59 = .ok (.iadd, 1) := dk_96 (dk_at dksX7_writtenOn_2 11 rfl rfl)
theorem dX7_writtenOn_60 : decode cX7_writtenOn 60 = .ok (.istore_n 2, 1) := dk_61 (dk_at dksX7_writtenOn_2 12 rfl rfl)
theorem dX7_writtenOn_61 : decode cX7_writtenOn 61 = .ok (.iinc 3 1, 3) := dk_132 3 1 (dk_at dksX7_writtenOn_2 13 rfl rfl)
theorem dX7_writtenOn_64 : decode cX7_writtenOn 64 = .ok (.goto (-36), 3) := dk_167 255 220 (dk_at dksX7_writtenOn_2 16 rfl rfl)
theorem dX7_writtenOn_67 : decode cX7_writtenOn 67 = .ok (.iload_n 2, 1) := dk_28 (dk_at dksX7_writtenOn_2 19 rfl rfl)
theorem dX7_writtenOn_68 : decode cX7_writtenOn 68 = .ok (.ireturn, 1) := dk_172 (dk_at dksX7_writtenOn_2 20 rfl rfl)
abbrev cX7_signal : ByteArray := prog_13_method_69_code
def yX7_signal : MethodName := ⟨RX7, "signal", "(III)F"⟩
def dkwX7_signal_1 : List UInt8 := [28, 42, 180, 0, 7, 16, 60, 27, 96, 46, 42, 180, 0, 7, 16, 52, 27, 96, 46, 29, 182, 0, 60, 174]
abbrev dktX7_signal_1 : List UInt8 := dkwX7_signal_1 ++ []
def dkwX7_signal_0 : List UInt8 := [42, 42, 27, 28, 29, 182, 0, 156, 181, 0, 32, 42, 180, 0, 32, 158, 0, 7, 11, 167, 0, 28, 42, 27]
abbrev dktX7_signal_0 : List UInt8 := dkwX7_signal_0 ++ dktX7_signal_1
theorem dksX7_signal_0 : cX7_signal.data.toList.drop 0 = dktX7_signal_0 := by decide +kernel
theorem dksX7_signal_1 : cX7_signal.data.toList.drop 24 = dktX7_signal_1 := dk_seg dksX7_signal_0 24 rfl rfl
theorem dX7_signal_0 : decode cX7_signal 0 = .ok (.aload_n 0, 1) := dk_42 (dk_at dksX7_signal_0 0 rfl rfl)
theorem dX7_signal_1 : decode cX7_signal 1 = .ok (.aload_n 0, 1) := dk_42 (dk_at dksX7_signal_0 1 rfl rfl)
theorem dX7_signal_2 : decode cX7_signal 2 = .ok (.iload_n 1, 1) := dk_27 (dk_at dksX7_signal_0 2 rfl rfl)
theorem dX7_signal_3 : decode cX7_signal 3 = .ok (.iload_n 2, 1) := dk_28 (dk_at dksX7_signal_0 3 rfl rfl)
theorem dX7_signal_4 : decode cX7_signal 4 = .ok (.iload_n 3, 1) := dk_29 (dk_at dksX7_signal_0 4 rfl rfl)
theorem dX7_signal_5 : decode cX7_signal 5 = .ok (.invokevirtual 156, 3) := dk_182 0 156 (dk_at dksX7_signal_0 5 rfl rfl)
theorem dX7_signal_8 : decode cX7_signal 8 = .ok (.putfield 32, 3) := dk_181 0 32 (dk_at dksX7_signal_0 8 rfl rfl)
theorem dX7_signal_11 : decode cX7_signal 11 = .ok (.aload_n 0, 1) := dk_42 (dk_at dksX7_signal_0 11 rfl rfl)
theorem dX7_signal_12 : decode cX7_signal 12 = .ok (.getfield 32, 3) := dk_180 0 32 (dk_at dksX7_signal_0 12 rfl rfl)
theorem dX7_signal_15 : decode cX7_signal 15 = .ok (.ifCond .le 7, 3) := dk_158 0 7 (dk_at dksX7_signal_0 15 rfl rfl)
theorem dX7_signal_18 : decode cX7_signal 18 = .ok (.fconst 0, 1) := dk_11 (dk_at dksX7_signal_0 18 rfl rfl)
theorem dX7_signal_19 : decode cX7_signal 19 = .ok (.goto 28, 3) := dk_167 0 28 (dk_at dksX7_signal_0 19 rfl rfl)
theorem dX7_signal_22 : decode cX7_signal 22 = .ok (.aload_n 0, 1) := dk_42 (dk_at dksX7_signal_0 22 rfl rfl)
theorem dX7_signal_23 : decode cX7_signal 23 = .ok (.iload_n 1, 1) := dk_27 (dk_at dksX7_signal_0 23 rfl rfl)
theorem dX7_signal_24 : decode cX7_signal 24 = .ok (.iload_n 2, 1) := dk_28 (dk_at dksX7_signal_1 0 rfl rfl)
theorem dX7_signal_25 : decode cX7_signal 25 = .ok (.aload_n 0, 1) := dk_42 (dk_at dksX7_signal_1 1 rfl rfl)
theorem dX7_signal_26 : decode cX7_signal 26 = .ok (.getfield 7, 3) := dk_180 0 7 (dk_at dksX7_signal_1 2 rfl rfl)
theorem dX7_signal_29 : decode cX7_signal 29 = .ok (.bipush 60, 2) := dk_16 60 (dk_at dksX7_signal_1 5 rfl rfl)
theorem dX7_signal_31 : decode cX7_signal 31 = .ok (.iload_n 1, 1) := dk_27 (dk_at dksX7_signal_1 7 rfl rfl)
theorem dX7_signal_32 : decode cX7_signal 32 = .ok (.iadd, 1) := dk_96 (dk_at dksX7_signal_1 8 rfl rfl)
theorem dX7_signal_33 : decode cX7_signal 33 = .ok (.iaload, 1) := dk_46 (dk_at dksX7_signal_1 9 rfl rfl)
theorem dX7_signal_34 : decode cX7_signal 34 = .ok (.aload_n 0, 1) := dk_42 (dk_at dksX7_signal_1 10 rfl rfl)
theorem dX7_signal_35 : decode cX7_signal 35 = .ok (.getfield 7, 3) := dk_180 0 7 (dk_at dksX7_signal_1 11 rfl rfl)
theorem dX7_signal_38 : decode cX7_signal 38 = .ok (.bipush 52, 2) := dk_16 52 (dk_at dksX7_signal_1 14 rfl rfl)
theorem dX7_signal_40 : decode cX7_signal 40 = .ok (.iload_n 1, 1) := dk_27 (dk_at dksX7_signal_1 16 rfl rfl)
theorem dX7_signal_41 : decode cX7_signal 41 = .ok (.iadd, 1) := dk_96 (dk_at dksX7_signal_1 17 rfl rfl)
theorem dX7_signal_42 : decode cX7_signal 42 = .ok (.iaload, 1) := dk_46 (dk_at dksX7_signal_1 18 rfl rfl)
theorem dX7_signal_43 : decode cX7_signal 43 = .ok (.iload_n 3, 1) := dk_29 (dk_at dksX7_signal_1 19 rfl rfl)
theorem dX7_signal_44 : decode cX7_signal 44 = .ok (.invokevirtual 60, 3) := dk_182 0 60 (dk_at dksX7_signal_1 20 rfl rfl)
theorem dX7_signal_47 : decode cX7_signal 47 = .ok (.freturn, 1) := dk_174 (dk_at dksX7_signal_1 23 rfl rfl)
abbrev cX7_signalRefusal : ByteArray := prog_13_method_68_code
def yX7_signalRefusal : MethodName := ⟨RX7, "signalRefusal", "(III)I"⟩
def dkwX7_signalRefusal_2 : List UInt8 := [3, 172]
abbrev dktX7_signalRefusal_2 : List UInt8 := dkwX7_signalRefusal_2 ++ []
def dkwX7_signalRefusal_1 : List UInt8 := [154, 0, 7, 5, 167, 0, 21, 42, 180, 0, 7, 16, 60, 27, 96, 46, 2, 160, 0, 7, 6, 167, 0, 4]
abbrev dktX7_signalRefusal_1 : List UInt8 := dkwX7_signalRefusal_1 ++ dktX7_signalRefusal_2
def dkwX7_signalRefusal_0 : List UInt8 := [27, 184, 0, 71, 153, 0, 10, 28, 184, 0, 96, 154, 0, 5, 4, 172, 29, 16, 216, 16, 40, 184, 0, 36]
abbrev dktX7_signalRefusal_0 : List UInt8 := dkwX7_signalRefusal_0 ++ dktX7_signalRefusal_1
theorem dksX7_signalRefusal_0 : cX7_signalRefusal.data.toList.drop 0 = dktX7_signalRefusal_0 := by decide +kernel
theorem dksX7_signalRefusal_1 : cX7_signalRefusal.data.toList.drop 24 = dktX7_signalRefusal_1 := dk_seg dksX7_signalRefusal_0 24 rfl rfl
theorem dksX7_signalRefusal_2 : cX7_signalRefusal.data.toList.drop 48 = dktX7_signalRefusal_2 := dk_seg dksX7_signalRefusal_1 24 rfl rfl
theorem dX7_signalRefusal_0 : decode cX7_signalRefusal 0 = .ok (.iload_n 1, 1) := dk_27 (dk_at dksX7_signalRefusal_0 0 rfl rfl)
theorem dX7_signalRefusal_1 : decode cX7_signalRefusal 1 = .ok (.invokestatic 71, 3) := dk_184 0 71 (dk_at dksX7_signalRefusal_0 1 rfl rfl)
theorem dX7_signalRefusal_4 : decode cX7_signalRefusal 4 = .ok (.ifCond .eq 10, 3) := dk_153 0 10 (dk_at dksX7_signalRefusal_0 4 rfl rfl)
theorem dX7_signalRefusal_7 : decode cX7_signalRefusal 7 = .ok (.iload_n 2, 1) := dk_28 (dk_at dksX7_signalRefusal_0 7 rfl rfl)
theorem dX7_signalRefusal_8 : decode cX7_signalRefusal 8 = .ok (.invokestatic 96, 3) := dk_184 0 96 (dk_at dksX7_signalRefusal_0 8 rfl rfl)
theorem dX7_signalRefusal_11 : decode cX7_signalRefusal 11 = .ok (.ifCond .ne 5, 3) := dk_154 0 5 (dk_at dksX7_signalRefusal_0 11 rfl rfl)
theorem dX7_signalRefusal_14 : decode cX7_signalRefusal 14 = .ok (.iconst 1, 1) := dk_4 (dk_at dksX7_signalRefusal_0 14 rfl rfl)
theorem dX7_signalRefusal_15 : decode cX7_signalRefusal 15 = .ok (.ireturn, 1) := dk_172 (dk_at dksX7_signalRefusal_0 15 rfl rfl)
theorem dX7_signalRefusal_16 : decode cX7_signalRefusal 16 = .ok (.iload_n 3, 1) := dk_29 (dk_at dksX7_signalRefusal_0 16 rfl rfl)
theorem dX7_signalRefusal_17 : decode cX7_signalRefusal 17 = .ok (.bipush (-40), 2) := dk_16 216 (dk_at dksX7_signalRefusal_0 17 rfl rfl)
theorem dX7_signalRefusal_19 : decode cX7_signalRefusal 19 = .ok (.bipush 40, 2) := dk_16 40 (dk_at dksX7_signalRefusal_0 19 rfl rfl)
theorem dX7_signalRefusal_21 : decode cX7_signalRefusal 21 = .ok (.invokestatic 36, 3) := dk_184 0 36 (dk_at dksX7_signalRefusal_0 21 rfl rfl)
theorem dX7_signalRefusal_24 : decode cX7_signalRefusal 24 = .ok (.ifCond .ne 7, 3) := dk_154 0 7 (dk_at dksX7_signalRefusal_1 0 rfl rfl)
theorem dX7_signalRefusal_27 : decode cX7_signalRefusal 27 = .ok (.iconst 2, 1) := dk_5 (dk_at dksX7_signalRefusal_1 3 rfl rfl)
theorem dX7_signalRefusal_28 : decode cX7_signalRefusal 28 = .ok (.goto 21, 3) := dk_167 0 21 (dk_at dksX7_signalRefusal_1 4 rfl rfl)
theorem dX7_signalRefusal_31 : decode cX7_signalRefusal 31 = .ok (.aload_n 0, 1) := dk_42 (dk_at dksX7_signalRefusal_1 7 rfl rfl)
theorem dX7_signalRefusal_32 : decode cX7_signalRefusal 32 = .ok (.getfield 7, 3) := dk_180 0 7 (dk_at dksX7_signalRefusal_1 8 rfl rfl)
theorem dX7_signalRefusal_35 : decode cX7_signalRefusal 35 = .ok (.bipush 60, 2) := dk_16 60 (dk_at dksX7_signalRefusal_1 11 rfl rfl)
theorem dX7_signalRefusal_37 : decode cX7_signalRefusal 37 = .ok (.iload_n 1, 1) := dk_27 (dk_at dksX7_signalRefusal_1 13 rfl rfl)
theorem dX7_signalRefusal_38 : decode cX7_signalRefusal 38 = .ok (.iadd, 1) := dk_96 (dk_at dksX7_signalRefusal_1 14 rfl rfl)
theorem dX7_signalRefusal_39 : decode cX7_signalRefusal 39 = .ok (.iaload, 1) := dk_46 (dk_at dksX7_signalRefusal_1 15 rfl rfl)
theorem dX7_signalRefusal_40 : decode cX7_signalRefusal 40 = .ok (.iconst (-1), 1) := dk_2 (dk_at dksX7_signalRefusal_1 16 rfl rfl)
theorem dX7_signalRefusal_41 : decode cX7_signalRefusal 41 = .ok (.if_icmp .ne 7, 3) := dk_160 0 7 (dk_at dksX7_signalRefusal_1 17 rfl rfl)
theorem dX7_signalRefusal_44 : decode cX7_signalRefusal 44 = .ok (.iconst 3, 1) := dk_6 (dk_at dksX7_signalRefusal_1 20 rfl rfl)
theorem dX7_signalRefusal_45 : decode cX7_signalRefusal 45 = .ok (.goto 4, 3) := dk_167 0 4 (dk_at dksX7_signalRefusal_1 21 rfl rfl)
theorem dX7_signalRefusal_48 : decode cX7_signalRefusal 48 = .ok (.iconst 0, 1) := dk_3 (dk_at dksX7_signalRefusal_2 0 rfl rfl)
theorem dX7_signalRefusal_49 : decode cX7_signalRefusal 49 = .ok (.ireturn, 1) := dk_172 (dk_at dksX7_signalRefusal_2 1 rfl rfl)
abbrev cX7_signalBits : ByteArray := prog_13_method_70_code
def yX7_signalBits : MethodName := ⟨RX7, "signalBits", "(III)I"⟩
def dkwX7_signalBits_2 : List UInt8 := [184, 0, 159, 172]
abbrev dktX7_signalBits_2 : List UInt8 := dkwX7_signalBits_2 ++ []
def dkwX7_signalBits_1 : List UInt8 := [28, 42, 180, 0, 7, 16, 60, 27, 96, 46, 42, 180, 0, 7, 16, 52, 27, 96, 46, 29, 182, 0, 60]
abbrev dktX7_signalBits_1 : List UInt8 := dkwX7_signalBits_1 ++ dktX7_signalBits_2
def dkwX7_signalBits_0 : List UInt8 := [42, 42, 27, 28, 29, 182, 0, 156, 181, 0, 32, 42, 180, 0, 32, 158, 0, 7, 3, 167, 0, 31, 42, 27]
abbrev dktX7_signalBits_0 : List UInt8 := dkwX7_signalBits_0 ++ dktX7_signalBits_1
theorem dksX7_signalBits_0 : cX7_signalBits.data.toList.drop 0 = dktX7_signalBits_0 := by decide +kernel
theorem dksX7_signalBits_1 : cX7_signalBits.data.toList.drop 24 = dktX7_signalBits_1 := dk_seg dksX7_signalBits_0 24 rfl rfl
theorem dksX7_signalBits_2 : cX7_signalBits.data.toList.drop 47 = dktX7_signalBits_2 := dk_seg dksX7_signalBits_1 23 rfl rfl
theorem dX7_signalBits_0 : decode cX7_signalBits 0 = .ok (.aload_n 0, 1) := dk_42 (dk_at dksX7_signalBits_0 0 rfl rfl)
theorem dX7_signalBits_1 : decode cX7_signalBits 1 = .ok (.aload_n 0, 1) := dk_42 (dk_at dksX7_signalBits_0 1 rfl rfl)
theorem dX7_signalBits_2 : decode cX7_signalBits 2 = .ok (.iload_n 1, 1) := dk_27 (dk_at dksX7_signalBits_0 2 rfl rfl)
theorem dX7_signalBits_3 : decode cX7_signalBits 3 = .ok (.iload_n 2, 1) := dk_28 (dk_at dksX7_signalBits_0 3 rfl rfl)
theorem dX7_signalBits_4 : decode cX7_signalBits 4 = .ok (.iload_n 3, 1) := dk_29 (dk_at dksX7_signalBits_0 4 rfl rfl)
theorem dX7_signalBits_5 : decode cX7_signalBits 5 = .ok (.invokevirtual 156, 3) := dk_182 0 156 (dk_at dksX7_signalBits_0 5 rfl rfl)
theorem dX7_signalBits_8 : decode cX7_signalBits 8 = .ok (.putfield 32, 3) := dk_181 0 32 (dk_at dksX7_signalBits_0 8 rfl rfl)
theorem dX7_signalBits_11 : decode cX7_signalBits 11 = .ok (.aload_n 0, 1) := dk_42 (dk_at dksX7_signalBits_0 11 rfl rfl)
theorem dX7_signalBits_12 : decode cX7_signalBits 12 = .ok (.getfield 32, 3) := dk_180 0 32 (dk_at dksX7_signalBits_0 12 rfl rfl)
theorem dX7_signalBits_15 : decode cX7_signalBits 15 = .ok (.ifCond .le 7, 3) := dk_158 0 7 (dk_at dksX7_signalBits_0 15 rfl rfl)
theorem dX7_signalBits_18 : decode cX7_signalBits 18 = .ok (.iconst 0, 1) := dk_3 (dk_at dksX7_signalBits_0 18 rfl rfl)
theorem dX7_signalBits_19 : decode cX7_signalBits 19 = .ok (.goto 31, 3) := dk_167 0 31 (dk_at dksX7_signalBits_0 19 rfl rfl)
theorem dX7_signalBits_22 : decode cX7_signalBits 22 = .ok (.aload_n 0, 1) := dk_42 (dk_at dksX7_signalBits_0 22 rfl rfl)
theorem dX7_signalBits_23 : decode cX7_signalBits 23 = .ok (.iload_n 1, 1) := dk_27 (dk_at dksX7_signalBits_0 23 rfl rfl)
theorem dX7_signalBits_24 : decode cX7_signalBits 24 = .ok (.iload_n 2, 1) := dk_28 (dk_at dksX7_signalBits_1 0 rfl rfl)
theorem dX7_signalBits_25 : decode cX7_signalBits 25 = .ok (.aload_n 0, 1) := dk_42 (dk_at dksX7_signalBits_1 1 rfl rfl)
theorem dX7_signalBits_26 : decode cX7_signalBits 26 = .ok (.getfield 7, 3) := dk_180 0 7 (dk_at dksX7_signalBits_1 2 rfl rfl)
theorem dX7_signalBits_29 : decode cX7_signalBits 29 = .ok (.bipush 60, 2) := dk_16 60 (dk_at dksX7_signalBits_1 5 rfl rfl)
theorem dX7_signalBits_31 : decode cX7_signalBits 31 = .ok (.iload_n 1, 1) := dk_27 (dk_at dksX7_signalBits_1 7 rfl rfl)
theorem dX7_signalBits_32 : decode cX7_signalBits 32 = .ok (.iadd, 1) := dk_96 (dk_at dksX7_signalBits_1 8 rfl rfl)
theorem dX7_signalBits_33 : decode cX7_signalBits 33 = .ok (.iaload, 1) := dk_46 (dk_at dksX7_signalBits_1 9 rfl rfl)
theorem dX7_signalBits_34 : decode cX7_signalBits 34 = .ok (.aload_n 0, 1) := dk_42 (dk_at dksX7_signalBits_1 10 rfl rfl)
theorem dX7_signalBits_35 : decode cX7_signalBits 35 = .ok (.getfield 7, 3) := dk_180 0 7 (dk_at dksX7_signalBits_1 11 rfl rfl)
theorem dX7_signalBits_38 : decode cX7_signalBits 38 = .ok (.bipush 52, 2) := dk_16 52 (dk_at dksX7_signalBits_1 14 rfl rfl)
theorem dX7_signalBits_40 : decode cX7_signalBits 40 = .ok (.iload_n 1, 1) := dk_27 (dk_at dksX7_signalBits_1 16 rfl rfl)
theorem dX7_signalBits_41 : decode cX7_signalBits 41 = .ok (.iadd, 1) := dk_96 (dk_at dksX7_signalBits_1 17 rfl rfl)
theorem dX7_signalBits_42 : decode cX7_signalBits 42 = .ok (.iaload, 1) := dk_46 (dk_at dksX7_signalBits_1 18 rfl rfl)
theorem dX7_signalBits_43 : decode cX7_signalBits 43 = .ok (.iload_n 3, 1) := dk_29 (dk_at dksX7_signalBits_1 19 rfl rfl)
theorem dX7_signalBits_44 : decode cX7_signalBits 44 = .ok (.invokevirtual 60, 3) := dk_182 0 60 (dk_at dksX7_signalBits_1 20 rfl rfl)
theorem dX7_signalBits_47 : decode cX7_signalBits 47 = .ok (.invokestatic 159, 3) := dk_184 0 159 (dk_at dksX7_signalBits_2 0 rfl rfl)
theorem dX7_signalBits_50 : decode cX7_signalBits 50 = .ok (.ireturn, 1) := dk_172 (dk_at dksX7_signalBits_2 3 rfl rfl)
abbrev cX7_gap : ByteArray := prog_13_method_71_code
def yX7_gap : MethodName := ⟨RX7, "gap", "(II)I"⟩
def dkwX7_gap_4 : List UInt8 := [182, 0, 51, 100, 172]
abbrev dktX7_gap_4 : List UInt8 := dkwX7_gap_4 ++ []
def dkwX7_gap_3 : List UInt8 := [29, 96, 46, 42, 27, 28, 42, 180, 0, 7, 16, 60, 27, 96, 46, 42, 180, 0, 7, 16, 52, 27, 96, 46]
abbrev dktX7_gap_3 : List UInt8 := dkwX7_gap_3 ++ dktX7_gap_4
def dkwX7_gap_2 : List UInt8 := [16, 126, 29, 96, 46, 2, 160, 0, 11, 42, 5, 182, 0, 78, 167, 0, 38, 42, 180, 0, 7, 17, 3, 78]
abbrev dktX7_gap_2 : List UInt8 := dkwX7_gap_2 ++ dktX7_gap_3
def dkwX7_gap_1 : List UInt8 := [16, 60, 27, 96, 46, 28, 42, 180, 0, 7, 16, 52, 27, 96, 46, 184, 0, 47, 62, 42, 180, 0, 7]
abbrev dktX7_gap_1 : List UInt8 := dkwX7_gap_1 ++ dktX7_gap_2
def dkwX7_gap_0 : List UInt8 := [42, 42, 27, 28, 182, 0, 132, 181, 0, 32, 42, 180, 0, 32, 158, 0, 5, 3, 172, 42, 180, 0, 7]
abbrev dktX7_gap_0 : List UInt8 := dkwX7_gap_0 ++ dktX7_gap_1
theorem dksX7_gap_0 : cX7_gap.data.toList.drop 0 = dktX7_gap_0 := by decide +kernel
theorem dksX7_gap_1 : cX7_gap.data.toList.drop 23 = dktX7_gap_1 := dk_seg dksX7_gap_0 23 rfl rfl
theorem dksX7_gap_2 : cX7_gap.data.toList.drop 46 = dktX7_gap_2 := dk_seg dksX7_gap_1 23 rfl rfl
theorem dksX7_gap_3 : cX7_gap.data.toList.drop 70 = dktX7_gap_3 := dk_seg dksX7_gap_2 24 rfl rfl
theorem dksX7_gap_4 : cX7_gap.data.toList.drop 94 = dktX7_gap_4 := dk_seg dksX7_gap_3 24 rfl rfl
theorem dX7_gap_0 : decode cX7_gap 0 = .ok (.aload_n 0, 1) := dk_42 (dk_at dksX7_gap_0 0 rfl rfl)
theorem dX7_gap_1 : decode cX7_gap 1 = .ok (.aload_n 0, 1) := dk_42 (dk_at dksX7_gap_0 1 rfl rfl)
theorem dX7_gap_2 : decode cX7_gap 2 = .ok (.iload_n 1, 1) := dk_27 (dk_at dksX7_gap_0 2 rfl rfl)
theorem dX7_gap_3 : decode cX7_gap 3 = .ok (.iload_n 2, 1) := dk_28 (dk_at dksX7_gap_0 3 rfl rfl)
theorem dX7_gap_4 : decode cX7_gap 4 = .ok (.invokevirtual 132, 3) := dk_182 0 132 (dk_at dksX7_gap_0 4 rfl rfl)
theorem dX7_gap_7 : decode cX7_gap 7 = .ok (.putfield 32, 3) := dk_181 0 32 (dk_at dksX7_gap_0 7 rfl rfl)
theorem dX7_gap_10 : decode cX7_gap 10 = .ok (.aload_n 0, 1) := dk_42 (dk_at dksX7_gap_0 10 rfl rfl)
theorem dX7_gap_11 : decode cX7_gap 11 = .ok (.getfield 32, 3) := dk_180 0 32 (dk_at dksX7_gap_0 11 rfl rfl)
theorem dX7_gap_14 : decode cX7_gap 14 = .ok (.ifCond .le 5, 3) := dk_158 0 5 (dk_at dksX7_gap_0 14 rfl rfl)
theorem dX7_gap_17 : decode cX7_gap 17 = .ok (.iconst 0, 1) := dk_3 (dk_at dksX7_gap_0 17 rfl rfl)
theorem dX7_gap_18 : decode cX7_gap 18 = .ok (.ireturn, 1) := dk_172 (dk_at dksX7_gap_0 18 rfl rfl)
theorem dX7_gap_19 : decode cX7_gap 19 = .ok (.aload_n 0, 1) := dk_42 (dk_at dksX7_gap_0 19 rfl rfl)
theorem dX7_gap_20 : decode cX7_gap 20 = .ok (.getfield 7, 3) := dk_180 0 7 (dk_at dksX7_gap_0 20 rfl rfl)
theorem dX7_gap_23 : decode cX7_gap 23 = .ok (.bipush 60, 2) := dk_16 60 (dk_at dksX7_gap_1 0 rfl rfl)
theorem dX7_gap_25 : decode cX7_gap 25 = .ok (.iload_n 1, 1) := dk_27 (dk_at dksX7_gap_1 2 rfl rfl)
theorem dX7_gap_26 : decode cX7_gap 26 = .ok (.iadd, 1) := dk_96 (dk_at dksX7_gap_1 3 rfl rfl)
theorem dX7_gap_27 : decode cX7_gap 27 = .ok (.iaload, 1) := dk_46 (dk_at dksX7_gap_1 4 rfl rfl)
theorem dX7_gap_28 : decode cX7_gap 28 = .ok (.iload_n 2, 1) := dk_28 (dk_at dksX7_gap_1 5 rfl rfl)
theorem dX7_gap_29 : decode cX7_gap 29 = .ok (.aload_n 0, 1) := dk_42 (dk_at dksX7_gap_1 6 rfl rfl)
theorem dX7_gap_30 : decode cX7_gap 30 = .ok (.getfield 7, 3) := dk_180 0 7 (dk_at dksX7_gap_1 7 rfl rfl)
theorem dX7_gap_33 : decode cX7_gap 33 = .ok (.bipush 52, 2) := dk_16 52 (dk_at dksX7_gap_1 10 rfl rfl)
theorem dX7_gap_35 : decode cX7_gap 35 = .ok (.iload_n 1, 1) := dk_27 (dk_at dksX7_gap_1 12 rfl rfl)
theorem dX7_gap_36 : decode cX7_gap 36 = .ok (.iadd, 1) := dk_96 (dk_at dksX7_gap_1 13 rfl rfl)
theorem dX7_gap_37 : decode cX7_gap 37 = .ok (.iaload, 1) := dk_46 (dk_at dksX7_gap_1 14 rfl rfl)
theorem dX7_gap_38 : decode cX7_gap 38 = .ok (.invokestatic 47, 3) := dk_184 0 47 (dk_at dksX7_gap_1 15 rfl rfl)
theorem dX7_gap_41 : decode cX7_gap 41 = .ok (.istore_n 3, 1) := dk_62 (dk_at dksX7_gap_1 18 rfl rfl)
theorem dX7_gap_42 : decode cX7_gap 42 = .ok (.aload_n 0, 1) := dk_42 (dk_at dksX7_gap_1 19 rfl rfl)
theorem dX7_gap_43 : decode cX7_gap 43 = .ok (.getfield 7, 3) := dk_180 0 7 (dk_at dksX7_gap_1 20 rfl rfl)
theorem dX7_gap_46 : decode cX7_gap 46 = .ok (.bipush 126, 2) := dk_16 126 (dk_at dksX7_gap_2 0 rfl rfl)
theorem dX7_gap_48 : decode cX7_gap 48 = .ok (.iload_n 3, 1) := dk_29 (dk_at dksX7_gap_2 2 rfl rfl)
theorem dX7_gap_49 : decode cX7_gap 49 = .ok (.iadd, 1) := dk_96 (dk_at dksX7_gap_2 3 rfl rfl)
theorem dX7_gap_50 : decode cX7_gap 50 = .ok (.iaload, 1) := dk_46 (dk_at dksX7_gap_2 4 rfl rfl)
theorem dX7_gap_51 : decode cX7_gap 51 = .ok (.iconst (-1), 1) := dk_2 (dk_at dksX7_gap_2 5 rfl rfl)
theorem dX7_gap_52 : decode cX7_gap 52 = .ok (.if_icmp .ne 11, 3) := dk_160 0 11 (dk_at dksX7_gap_2 6 rfl rfl)
theorem dX7_gap_55 : decode cX7_gap 55 = .ok (.aload_n 0, 1) := dk_42 (dk_at dksX7_gap_2 9 rfl rfl)
theorem dX7_gap_56 : decode cX7_gap 56 = .ok (.iconst 2, 1) := dk_5 (dk_at dksX7_gap_2 10 rfl rfl)
theorem dX7_gap_57 : decode cX7_gap 57 = .ok (.invokevirtual 78, 3) := dk_182 0 78 (dk_at dksX7_gap_2 11 rfl rfl)
theorem dX7_gap_60 : decode cX7_gap 60 = .ok (.goto 38, 3) := dk_167 0 38 (dk_at dksX7_gap_2 14 rfl rfl)
theorem dX7_gap_63 : decode cX7_gap 63 = .ok (.aload_n 0, 1) := dk_42 (dk_at dksX7_gap_2 17 rfl rfl)
theorem dX7_gap_64 : decode cX7_gap 64 = .ok (.getfield 7, 3) := dk_180 0 7 (dk_at dksX7_gap_2 18 rfl rfl)
theorem dX7_gap_67 : decode cX7_gap 67 = .ok (.sipush 846, 3) := dk_17 3 78 (dk_at dksX7_gap_2 21 rfl rfl)
theorem dX7_gap_70 : decode cX7_gap 70 = .ok (.iload_n 3, 1) := dk_29 (dk_at dksX7_gap_3 0 rfl rfl)
theorem dX7_gap_71 : decode cX7_gap 71 = .ok (.iadd, 1) := dk_96 (dk_at dksX7_gap_3 1 rfl rfl)
theorem dX7_gap_72 : decode cX7_gap 72 = .ok (.iaload, 1) := dk_46 (dk_at dksX7_gap_3 2 rfl rfl)
theorem dX7_gap_73 : decode cX7_gap 73 = .ok (.aload_n 0, 1) := dk_42 (dk_at dksX7_gap_3 3 rfl rfl)
theorem dX7_gap_74 : decode cX7_gap 74 = .ok (.iload_n 1, 1) := dk_27 (dk_at dksX7_gap_3 4 rfl rfl)
theorem dX7_gap_75 : decode cX7_gap 75 = .ok (.iload_n 2, 1) := dk_28 (dk_at dksX7_gap_3 5 rfl rfl)
theorem dX7_gap_76 : decode cX7_gap 76 = .ok (.aload_n 0, 1) := dk_42 (dk_at dksX7_gap_3 6 rfl rfl)
theorem dX7_gap_77 : decode cX7_gap 77 = .ok (.getfield 7, 3) := dk_180 0 7 (dk_at dksX7_gap_3 7 rfl rfl)
theorem dX7_gap_80 : decode cX7_gap 80 = .ok (.bipush 60, 2) := dk_16 60 (dk_at dksX7_gap_3 10 rfl rfl)
theorem dX7_gap_82 : decode cX7_gap 82 = .ok (.iload_n 1, 1) := dk_27 (dk_at dksX7_gap_3 12 rfl rfl)
theorem dX7_gap_83 : decode cX7_gap 83 = .ok (.iadd, 1) := dk_96 (dk_at dksX7_gap_3 13 rfl rfl)
theorem dX7_gap_84 : decode cX7_gap 84 = .ok (.iaload, 1) := dk_46 (dk_at dksX7_gap_3 14 rfl rfl)
theorem dX7_gap_85 : decode cX7_gap 85 = .ok (.aload_n 0, 1) := dk_42 (dk_at dksX7_gap_3 15 rfl rfl)
theorem dX7_gap_86 : decode cX7_gap 86 = .ok (.getfield 7, 3) := dk_180 0 7 (dk_at dksX7_gap_3 16 rfl rfl)
theorem dX7_gap_89 : decode cX7_gap 89 = .ok (.bipush 52, 2) := dk_16 52 (dk_at dksX7_gap_3 19 rfl rfl)
theorem dX7_gap_91 : decode cX7_gap 91 = .ok (.iload_n 1, 1) := dk_27 (dk_at dksX7_gap_3 21 rfl rfl)
theorem dX7_gap_92 : decode cX7_gap 92 = .ok (.iadd, 1) := dk_96 (dk_at dksX7_gap_3 22 rfl rfl)
theorem dX7_gap_93 : decode cX7_gap 93 = .ok (.iaload, 1) := dk_46 (dk_at dksX7_gap_3 23 rfl rfl)
theorem dX7_gap_94 : decode cX7_gap 94 = .ok (.invokevirtual 51, 3) := dk_182 0 51 (dk_at dksX7_gap_4 0 rfl rfl)
theorem dX7_gap_97 : decode cX7_gap 97 = .ok (.isub, 1) := dk_100 (dk_at dksX7_gap_4 3 rfl rfl)
theorem dX7_gap_98 : decode cX7_gap 98 = .ok (.ireturn, 1) := dk_172 (dk_at dksX7_gap_4 4 rfl rfl)
abbrev cX7_retriesByTrying : ByteArray := prog_13_method_72_code
def yX7_retriesByTrying : MethodName := ⟨RX7, "retriesByTrying", "(II)I"⟩
def dkwX7_retriesByTrying_1 : List UInt8 := [42, 180, 0, 7, 16, 60, 27, 96, 46, 42, 180, 0, 7, 16, 52, 27, 96, 46, 182, 0, 104, 172]
abbrev dktX7_retriesByTrying_1 : List UInt8 := dkwX7_retriesByTrying_1 ++ []
def dkwX7_retriesByTrying_0 : List UInt8 := [42, 42, 27, 28, 182, 0, 132, 181, 0, 32, 42, 180, 0, 32, 158, 0, 7, 3, 167, 0, 27, 42, 27, 28]
abbrev dktX7_retriesByTrying_0 : List UInt8 := dkwX7_retriesByTrying_0 ++ dktX7_retriesByTrying_1
theorem dksX7_retriesByTrying_0 : cX7_retriesByTrying.data.toList.drop 0 = dktX7_retriesByTrying_0 := by decide +kernel
theorem dksX7_retriesByTrying_1 : cX7_retriesByTrying.data.toList.drop 24 = dktX7_retriesByTrying_1 := dk_seg dksX7_retriesByTrying_0 24 rfl rfl
theorem dX7_retriesByTrying_0 : decode cX7_retriesByTrying 0 = .ok (.aload_n 0, 1) := dk_42 (dk_at dksX7_retriesByTrying_0 0 rfl rfl)
theorem dX7_retriesByTrying_1 : decode cX7_retriesByTrying 1 = .ok (.aload_n 0, 1) := dk_42 (dk_at dksX7_retriesByTrying_0 1 rfl rfl)
theorem dX7_retriesByTrying_2 : decode cX7_retriesByTrying 2 = .ok (.iload_n 1, 1) := dk_27 (dk_at dksX7_retriesByTrying_0 2 rfl rfl)
theorem dX7_retriesByTrying_3 : decode cX7_retriesByTrying 3 = .ok (.iload_n 2, 1) := dk_28 (dk_at dksX7_retriesByTrying_0 3 rfl rfl)
theorem dX7_retriesByTrying_4 : decode cX7_retriesByTrying 4 = .ok (.invokevirtual 132, 3) := dk_182 0 132 (dk_at dksX7_retriesByTrying_0 4 rfl rfl)
theorem dX7_retriesByTrying_7 : decode cX7_retriesByTrying 7 = .ok (.putfield 32, 3) := dk_181 0 32 (dk_at dksX7_retriesByTrying_0 7 rfl rfl)
theorem dX7_retriesByTrying_10 : decode cX7_retriesByTrying 10 = .ok (.aload_n 0, 1) := dk_42 (dk_at dksX7_retriesByTrying_0 10 rfl rfl)
theorem dX7_retriesByTrying_11 : decode cX7_retriesByTrying 11 = .ok (.getfield 32, 3) := dk_180 0 32 (dk_at dksX7_retriesByTrying_0 11 rfl rfl)
theorem dX7_retriesByTrying_14 : decode cX7_retriesByTrying 14 = .ok (.ifCond .le 7, 3) := dk_158 0 7 (dk_at dksX7_retriesByTrying_0 14 rfl rfl)
theorem dX7_retriesByTrying_17 : decode cX7_retriesByTrying 17 = .ok (.iconst 0, 1) := dk_3 (dk_at dksX7_retriesByTrying_0 17 rfl rfl)
theorem dX7_retriesByTrying_18 : decode cX7_retriesByTrying 18 = .ok (.goto 27, 3) := dk_167 0 27 (dk_at dksX7_retriesByTrying_0 18 rfl rfl)
theorem dX7_retriesByTrying_21 : decode cX7_retriesByTrying 21 = .ok (.aload_n 0, 1) := dk_42 (dk_at dksX7_retriesByTrying_0 21 rfl rfl)
theorem dX7_retriesByTrying_22 : decode cX7_retriesByTrying 22 = .ok (.iload_n 1, 1) := dk_27 (dk_at dksX7_retriesByTrying_0 22 rfl rfl)
theorem dX7_retriesByTrying_23 : decode cX7_retriesByTrying 23 = .ok (.iload_n 2, 1) := dk_28 (dk_at dksX7_retriesByTrying_0 23 rfl rfl)
theorem dX7_retriesByTrying_24 : decode cX7_retriesByTrying 24 = .ok (.aload_n 0, 1) := dk_42 (dk_at dksX7_retriesByTrying_1 0 rfl rfl)
theorem dX7_retriesByTrying_25 : decode cX7_retriesByTrying 25 = .ok (.getfield 7, 3) := dk_180 0 7 (dk_at dksX7_retriesByTrying_1 1 rfl rfl)
theorem dX7_retriesByTrying_28 : decode cX7_retriesByTrying 28 = .ok (.bipush 60, 2) := dk_16 60 (dk_at dksX7_retriesByTrying_1 4 rfl rfl)
theorem dX7_retriesByTrying_30 : decode cX7_retriesByTrying 30 = .ok (.iload_n 1, 1) := dk_27 (dk_at dksX7_retriesByTrying_1 6 rfl rfl)
theorem dX7_retriesByTrying_31 : decode cX7_retriesByTrying 31 = .ok (.iadd, 1) := dk_96 (dk_at dksX7_retriesByTrying_1 7 rfl rfl)
theorem dX7_retriesByTrying_32 : decode cX7_retriesByTrying 32 = .ok (.iaload, 1) := dk_46 (dk_at dksX7_retriesByTrying_1 8 rfl rfl)
theorem dX7_retriesByTrying_33 : decode cX7_retriesByTrying 33 = .ok (.aload_n 0, 1) := dk_42 (dk_at dksX7_retriesByTrying_1 9 rfl rfl)
theorem dX7_retriesByTrying_34 : decode cX7_retriesByTrying 34 = .ok (.getfield 7, 3) := dk_180 0 7 (dk_at dksX7_retriesByTrying_1 10 rfl rfl)
theorem dX7_retriesByTrying_37 : decode cX7_retriesByTrying 37 = .ok (.bipush 52, 2) := dk_16 52 (dk_at dksX7_retriesByTrying_1 13 rfl rfl)
theorem dX7_retriesByTrying_39 : decode cX7_retriesByTrying 39 = .ok (.iload_n 1, 1) := dk_27 (dk_at dksX7_retriesByTrying_1 15 rfl rfl)
theorem dX7_retriesByTrying_40 : decode cX7_retriesByTrying 40 = .ok (.iadd, 1) := dk_96 (dk_at dksX7_retriesByTrying_1 16 rfl rfl)
theorem dX7_retriesByTrying_41 : decode cX7_retriesByTrying 41 = .ok (.iaload, 1) := dk_46 (dk_at dksX7_retriesByTrying_1 17 rfl rfl)
theorem dX7_retriesByTrying_42 : decode cX7_retriesByTrying 42 = .ok (.invokevirtual 104, 3) := dk_182 0 104 (dk_at dksX7_retriesByTrying_1 18 rfl rfl)
theorem dX7_retriesByTrying_45 : decode cX7_retriesByTrying 45 = .ok (.ireturn, 1) := dk_172 (dk_at dksX7_retriesByTrying_1 21 rfl rfl)
abbrev cX7_retriesByGap : ByteArray := prog_13_method_73_code
def yX7_retriesByGap : MethodName := ⟨RX7, "retriesByGap", "(II)I"⟩
def dkwX7_retriesByGap_0 : List UInt8 := [42, 27, 28, 182, 0, 165, 172]
abbrev dktX7_retriesByGap_0 : List UInt8 := dkwX7_retriesByGap_0 ++ []
theorem dksX7_retriesByGap_0 : cX7_retriesByGap.data.toList.drop 0 = dktX7_retriesByGap_0 := by decide +kernel
theorem dX7_retriesByGap_0 : decode cX7_retriesByGap 0 = .ok (.aload_n 0, 1) := dk_42 (dk_at dksX7_retriesByGap_0 0 rfl rfl)
theorem dX7_retriesByGap_1 : decode cX7_retriesByGap 1 = .ok (.iload_n 1, 1) := dk_27 (dk_at dksX7_retriesByGap_0 1 rfl rfl)
theorem dX7_retriesByGap_2 : decode cX7_retriesByGap 2 = .ok (.iload_n 2, 1) := dk_28 (dk_at dksX7_retriesByGap_0 2 rfl rfl)
theorem dX7_retriesByGap_3 : decode cX7_retriesByGap 3 = .ok (.invokevirtual 165, 3) := dk_182 0 165 (dk_at dksX7_retriesByGap_0 3 rfl rfl)
theorem dX7_retriesByGap_6 : decode cX7_retriesByGap 6 = .ok (.ireturn, 1) := dk_172 (dk_at dksX7_retriesByGap_0 6 rfl rfl)
abbrev cX7_readableBy : ByteArray := prog_13_method_74_code
def yX7_readableBy : MethodName := ⟨RX7, "readableBy", "(III)I"⟩
def dkwX7_readableBy_2 : List UInt8 := [167, 0, 7, 4, 21, 6, 120, 128, 54, 5, 132, 6, 1, 167, 255, 221, 21, 5, 172]
abbrev dktX7_readableBy_2 : List UInt8 := dkwX7_readableBy_2 ++ []
def dkwX7_readableBy_1 : List UInt8 := [21, 6, 7, 162, 0, 35, 21, 5, 42, 21, 6, 28, 27, 29, 182, 0, 104, 2, 160, 0, 7, 3]
abbrev dktX7_readableBy_1 : List UInt8 := dkwX7_readableBy_1 ++ dktX7_readableBy_2
def dkwX7_readableBy_0 : List UInt8 := [42, 27, 28, 29, 182, 0, 153, 54, 4, 21, 4, 2, 160, 0, 5, 3, 172, 3, 54, 5, 3, 54, 6]
abbrev dktX7_readableBy_0 : List UInt8 := dkwX7_readableBy_0 ++ dktX7_readableBy_1
theorem dksX7_readableBy_0 : cX7_readableBy.data.toList.drop 0 = dktX7_readableBy_0 := by decide +kernel
theorem dksX7_readableBy_1 : cX7_readableBy.data.toList.drop 23 = dktX7_readableBy_1 := dk_seg dksX7_readableBy_0 23 rfl rfl
theorem dksX7_readableBy_2 : cX7_readableBy.data.toList.drop 45 = dktX7_readableBy_2 := dk_seg dksX7_readableBy_1 22 rfl rfl
theorem dX7_readableBy_0 : decode cX7_readableBy 0 = .ok (.aload_n 0, 1) := dk_42 (dk_at dksX7_readableBy_0 0 rfl rfl)
theorem dX7_readableBy_1 : decode cX7_readableBy 1 = .ok (.iload_n 1, 1) := dk_27 (dk_at dksX7_readableBy_0 1 rfl rfl)
theorem dX7_readableBy_2 : decode cX7_readableBy 2 = .ok (.iload_n 2, 1) := dk_28 (dk_at dksX7_readableBy_0 2 rfl rfl)
theorem dX7_readableBy_3 : decode cX7_readableBy 3 = .ok (.iload_n 3, 1) := dk_29 (dk_at dksX7_readableBy_0 3 rfl rfl)
theorem dX7_readableBy_4 : decode cX7_readableBy 4 = .ok (.invokevirtual 153, 3) := dk_182 0 153 (dk_at dksX7_readableBy_0 4 rfl rfl)
theorem dX7_readableBy_7 : decode cX7_readableBy 7 = .ok (.istore 4, 2) := dk_54 4 (dk_at dksX7_readableBy_0 7 rfl rfl)
theorem dX7_readableBy_9 : decode cX7_readableBy 9 = .ok (.iload 4, 2) := dk_21 4 (dk_at dksX7_readableBy_0 9 rfl rfl)
theorem dX7_readableBy_11 : decode cX7_readableBy 11 = .ok (.iconst (-1), 1) := dk_2 (dk_at dksX7_readableBy_0 11 rfl rfl)
theorem dX7_readableBy_12 : decode cX7_readableBy 12 = .ok (.if_icmp .ne 5, 3) := dk_160 0 5 (dk_at dksX7_readableBy_0 12 rfl rfl)
theorem dX7_readableBy_15 : decode cX7_readableBy 15 = .ok (.iconst 0, 1) := dk_3 (dk_at dksX7_readableBy_0 15 rfl rfl)
theorem dX7_readableBy_16 : decode cX7_readableBy 16 = .ok (.ireturn, 1) := dk_172 (dk_at dksX7_readableBy_0 16 rfl rfl)
theorem dX7_readableBy_17 : decode cX7_readableBy 17 = .ok (.iconst 0, 1) := dk_3 (dk_at dksX7_readableBy_0 17 rfl rfl)
theorem dX7_readableBy_18 : decode cX7_readableBy 18 = .ok (.istore 5, 2) := dk_54 5 (dk_at dksX7_readableBy_0 18 rfl rfl)
theorem dX7_readableBy_20 : decode cX7_readableBy 20 = .ok (.iconst 0, 1) := dk_3 (dk_at dksX7_readableBy_0 20 rfl rfl)
theorem dX7_readableBy_21 : decode cX7_readableBy 21 = .ok (.istore 6, 2) := dk_54 6 (dk_at dksX7_readableBy_0 21 rfl rfl)
theorem dX7_readableBy_23 : decode cX7_readableBy 23 = .ok (.iload 6, 2) := dk_21 6 (dk_at dksX7_readableBy_1 0 rfl rfl)
theorem dX7_readableBy_25 : decode cX7_readableBy 25 = .ok (.iconst 4, 1) := dk_7 (dk_at dksX7_readableBy_1 2 rfl rfl)
theorem dX7_readableBy_26 : decode cX7_readableBy 26 = .ok (.if_icmp .ge 35, 3) := dk_162 0 35 (dk_at dksX7_readableBy_1 3 rfl rfl)
theorem dX7_readableBy_29 : decode cX7_readableBy 29 = .ok (.iload 5, 2) := dk_21 5 (dk_at dksX7_readableBy_1 6 rfl rfl)
theorem dX7_readableBy_31 : decode cX7_readableBy 31 = .ok (.aload_n 0, 1) := dk_42 (dk_at dksX7_readableBy_1 8 rfl rfl)
theorem dX7_readableBy_32 : decode cX7_readableBy 32 = .ok (.iload 6, 2) := dk_21 6 (dk_at dksX7_readableBy_1 9 rfl rfl)
theorem dX7_readableBy_34 : decode cX7_readableBy 34 = .ok (.iload_n 2, 1) := dk_28 (dk_at dksX7_readableBy_1 11 rfl rfl)
theorem dX7_readableBy_35 : decode cX7_readableBy 35 = .ok (.iload_n 1, 1) := dk_27 (dk_at dksX7_readableBy_1 12 rfl rfl)
theorem dX7_readableBy_36 : decode cX7_readableBy 36 = .ok (.iload_n 3, 1) := dk_29 (dk_at dksX7_readableBy_1 13 rfl rfl)
theorem dX7_readableBy_37 : decode cX7_readableBy 37 = .ok (.invokevirtual 104, 3) := dk_182 0 104 (dk_at dksX7_readableBy_1 14 rfl rfl)
theorem dX7_readableBy_40 : decode cX7_readableBy 40 = .ok (.iconst (-1), 1) := dk_2 (dk_at dksX7_readableBy_1 17 rfl rfl)
theorem dX7_readableBy_41 : decode cX7_readableBy 41 = .ok (.if_icmp .ne 7, 3) := dk_160 0 7 (dk_at dksX7_readableBy_1 18 rfl rfl)
theorem dX7_readableBy_44 : decode cX7_readableBy 44 = .ok (.iconst 0, 1) := dk_3 (dk_at dksX7_readableBy_1 21 rfl rfl)
theorem dX7_readableBy_45 : decode cX7_readableBy 45 = .ok (.goto 7, 3) := dk_167 0 7 (dk_at dksX7_readableBy_2 0 rfl rfl)
theorem dX7_readableBy_48 : decode cX7_readableBy 48 = .ok (.iconst 1, 1) := dk_4 (dk_at dksX7_readableBy_2 3 rfl rfl)
theorem dX7_readableBy_49 : decode cX7_readableBy 49 = .ok (.iload 6, 2) := dk_21 6 (dk_at dksX7_readableBy_2 4 rfl rfl)
theorem dX7_readableBy_51 : decode cX7_readableBy 51 = .ok (.ishl, 1) := dk_120 (dk_at dksX7_readableBy_2 6 rfl rfl)
theorem dX7_readableBy_52 : decode cX7_readableBy 52 = .ok (.ior, 1) := dk_128 (dk_at dksX7_readableBy_2 7 rfl rfl)
theorem dX7_readableBy_53 : decode cX7_readableBy 53 = .ok (.istore 5, 2) := dk_54 5 (dk_at dksX7_readableBy_2 8 rfl rfl)
theorem dX7_readableBy_55 : decode cX7_readableBy 55 = .ok (.iinc 6 1, 3) := dk_132 6 1 (dk_at dksX7_readableBy_2 10 rfl rfl)
theorem dX7_readableBy_58 : decode cX7_readableBy 58 = .ok (.goto (-35), 3) := dk_167 255 221 (dk_at dksX7_readableBy_2 13 rfl rfl)
theorem dX7_readableBy_61 : decode cX7_readableBy 61 = .ok (.iload 5, 2) := dk_21 5 (dk_at dksX7_readableBy_2 16 rfl rfl)
theorem dX7_readableBy_63 : decode cX7_readableBy 63 = .ok (.ireturn, 1) := dk_172 (dk_at dksX7_readableBy_2 18 rfl rfl)
abbrev cX7_readableIn : ByteArray := prog_13_method_75_code
def yX7_readableIn : MethodName := ⟨RX7, "readableIn", "(II)I"⟩
def dkwX7_readableIn_3 : List UInt8 := [62, 132, 5, 1, 167, 255, 224, 132, 4, 1, 167, 255, 209, 29, 172]
abbrev dktX7_readableIn_3 : List UInt8 := dkwX7_readableIn_3 ++ []
def dkwX7_readableIn_2 : List UInt8 := [162, 0, 31, 29, 42, 27, 21, 4, 28, 21, 5, 182, 0, 104, 2, 160, 0, 7, 3, 167, 0, 4, 4, 96]
abbrev dktX7_readableIn_2 : List UInt8 := dkwX7_readableIn_2 ++ dktX7_readableIn_3
def dkwX7_readableIn_1 : List UInt8 := [182, 0, 78, 172, 3, 62, 3, 54, 4, 21, 4, 6, 162, 0, 47, 3, 54, 5, 21, 5, 16, 40]
abbrev dktX7_readableIn_1 : List UInt8 := dkwX7_readableIn_1 ++ dktX7_readableIn_2
def dkwX7_readableIn_0 : List UInt8 := [42, 3, 181, 0, 32, 27, 184, 0, 71, 153, 0, 11, 42, 28, 182, 0, 84, 154, 0, 9, 42, 4]
abbrev dktX7_readableIn_0 : List UInt8 := dkwX7_readableIn_0 ++ dktX7_readableIn_1
theorem dksX7_readableIn_0 : cX7_readableIn.data.toList.drop 0 = dktX7_readableIn_0 := by decide +kernel
theorem dksX7_readableIn_1 : cX7_readableIn.data.toList.drop 22 = dktX7_readableIn_1 := dk_seg dksX7_readableIn_0 22 rfl rfl
theorem dksX7_readableIn_2 : cX7_readableIn.data.toList.drop 44 = dktX7_readableIn_2 := dk_seg dksX7_readableIn_1 22 rfl rfl
theorem dksX7_readableIn_3 : cX7_readableIn.data.toList.drop 68 = dktX7_readableIn_3 := dk_seg dksX7_readableIn_2 24 rfl rfl
theorem dX7_readableIn_0 : decode cX7_readableIn 0 = .ok (.aload_n 0, 1) := dk_42 (dk_at dksX7_readableIn_0 0 rfl rfl)
theorem dX7_readableIn_1 : decode cX7_readableIn 1 = .ok (.iconst 0, 1) := dk_3 (dk_at dksX7_readableIn_0 1 rfl rfl)
theorem dX7_readableIn_2 : decode cX7_readableIn 2 = .ok (.putfield 32, 3) := dk_181 0 32 (dk_at dksX7_readableIn_0 2 rfl rfl)
theorem dX7_readableIn_5 : decode cX7_readableIn 5 = .ok (.iload_n 1, 1) := dk_27 (dk_at dksX7_readableIn_0 5 rfl rfl)
theorem dX7_readableIn_6 : decode cX7_readableIn 6 = .ok (.invokestatic 71, 3) := dk_184 0 71 (dk_at dksX7_readableIn_0 6 rfl rfl)
theorem dX7_readableIn_9 : decode cX7_readableIn 9 = .ok (.ifCond .eq 11, 3) := dk_153 0 11 (dk_at dksX7_readableIn_0 9 rfl rfl)
theorem dX7_readableIn_12 : decode cX7_readableIn 12 = .ok (.aload_n 0, 1) := dk_42 (dk_at dksX7_readableIn_0 12 rfl rfl)
theorem dX7_readableIn_13 : decode cX7_readableIn 13 = .ok (.iload_n 2, 1) := dk_28 (dk_at dksX7_readableIn_0 13 rfl rfl)
theorem dX7_readableIn_14 : decode cX7_readableIn 14 = .ok (.invokevirtual 84, 3) := dk_182 0 84 (dk_at dksX7_readableIn_0 14 rfl rfl)
theorem dX7_readableIn_17 : decode cX7_readableIn 17 = .ok (.ifCond .ne 9, 3) := dk_154 0 9 (dk_at dksX7_readableIn_0 17 rfl rfl)
theorem dX7_readableIn_20 : decode cX7_readableIn 20 = .ok (.aload_n 0, 1) := dk_42 (dk_at dksX7_readableIn_0 20 rfl rfl)
theorem dX7_readableIn_21 : decode cX7_readableIn 21 = .ok (.iconst 1, 1) := dk_4 (dk_at dksX7_readableIn_0 21 rfl rfl)
theorem dX7_readableIn_22 : decode cX7_readableIn 22 = .ok (.invokevirtual 78, 3) := dk_182 0 78 (dk_at dksX7_readableIn_1 0 rfl rfl)
theorem dX7_readableIn_25 : decode cX7_readableIn 25 = .ok (.ireturn, 1) := dk_172 (dk_at dksX7_readableIn_1 3 rfl rfl)
theorem dX7_readableIn_26 : decode cX7_readableIn 26 = .ok (.iconst 0, 1) := dk_3 (dk_at dksX7_readableIn_1 4 rfl rfl)
theorem dX7_readableIn_27 : decode cX7_readableIn 27 = .ok (.istore_n 3, 1) := dk_62 (dk_at dksX7_readableIn_1 5 rfl rfl)
theorem dX7_readableIn_28 : decode cX7_readableIn 28 = .ok (.iconst 0, 1) := dk_3 (dk_at dksX7_readableIn_1 6 rfl rfl)
theorem dX7_readableIn_29 : decode cX7_readableIn 29 = .ok (.istore 4, 2) := dk_54 4 (dk_at dksX7_readableIn_1 7 rfl rfl)
theorem dX7_readableIn_31 : decode cX7_readableIn 31 = .ok (.iload 4, 2) := dk_21 4 (dk_at dksX7_readableIn_1 9 rfl rfl)
theorem dX7_readableIn_33 : decode cX7_readableIn 33 = .ok (.iconst 3, 1) := dk_6 (dk_at dksX7_readableIn_1 11 rfl rfl)
theorem dX7_readableIn_34 : decode cX7_readableIn 34 = .ok (.if_icmp .ge 47, 3) := dk_162 0 47 (dk_at dksX7_readableIn_1 12 rfl rfl)
theorem dX7_readableIn_37 : decode cX7_readableIn 37 = .ok (.iconst 0, 1) := dk_3 (dk_at dksX7_readableIn_1 15 rfl rfl)
theorem dX7_readableIn_38 : decode cX7_readableIn 38 = .ok (.istore 5, 2) := dk_54 5 (dk_at dksX7_readableIn_1 16 rfl rfl)
theorem dX7_readableIn_40 : decode cX7_readableIn 40 = .ok (.iload 5, 2) := dk_21 5 (dk_at dksX7_readableIn_1 18 rfl rfl)
theorem dX7_readableIn_42 : decode cX7_readableIn 42 = .ok (.bipush 40, 2) := dk_16 40 (dk_at dksX7_readableIn_1 20 rfl rfl)
theorem dX7_readableIn_44 : decode cX7_readableIn 44 = .ok (.if_icmp .ge 31, 3) := dk_162 0 31 (dk_at dksX7_readableIn_2 0 rfl rfl)
theorem dX7_readableIn_47 : decode cX7_readableIn 47 = .ok (.iload_n 3, 1) := dk_29 (dk_at dksX7_readableIn_2 3 rfl rfl)
theorem dX7_readableIn_48 : decode cX7_readableIn 48 = .ok (.aload_n 0, 1) := dk_42 (dk_at dksX7_readableIn_2 4 rfl rfl)
theorem dX7_readableIn_49 : decode cX7_readableIn 49 = .ok (.iload_n 1, 1) := dk_27 (dk_at dksX7_readableIn_2 5 rfl rfl)
theorem dX7_readableIn_50 : decode cX7_readableIn 50 = .ok (.iload 4, 2) := dk_21 4 (dk_at dksX7_readableIn_2 6 rfl rfl)
theorem dX7_readableIn_52 : decode cX7_readableIn 52 = .ok (.iload_n 2, 1) := dk_28 (dk_at dksX7_readableIn_2 8 rfl rfl)
theorem dX7_readableIn_53 : decode cX7_readableIn 53 = .ok (.iload 5, 2) := dk_21 5 (dk_at dksX7_readableIn_2 9 rfl rfl)
theorem dX7_readableIn_55 : decode cX7_readableIn 55 = .ok (.invokevirtual 104, 3) := dk_182 0 104 (dk_at dksX7_readableIn_2 11 rfl rfl)
theorem dX7_readableIn_58 : decode cX7_readableIn 58 = .ok (.iconst (-1), 1) := dk_2 (dk_at dksX7_readableIn_2 14 rfl rfl)
theorem dX7_readableIn_59 : decode cX7_readableIn 59 = .ok (.if_icmp .ne 7, 3) := dk_160 0 7 (dk_at dksX7_readableIn_2 15 rfl rfl)
theorem dX7_readableIn_62 : decode cX7_readableIn 62 = .ok (.iconst 0, 1) := dk_3 (dk_at dksX7_readableIn_2 18 rfl rfl)
theorem dX7_readableIn_63 : decode cX7_readableIn 63 = .ok (.goto 4, 3) := dk_167 0 4 (dk_at dksX7_readableIn_2 19 rfl rfl)
theorem dX7_readableIn_66 : decode cX7_readableIn 66 = .ok (.iconst 1, 1) := dk_4 (dk_at dksX7_readableIn_2 22 rfl rfl)
theorem dX7_readableIn_67 : decode cX7_readableIn 67 = .ok (.iadd, 1) := dk_96 (dk_at dksX7_readableIn_2 23 rfl rfl)
theorem dX7_readableIn_68 : decode cX7_readableIn 68 = .ok (.istore_n 3, 1) := dk_62 (dk_at dksX7_readableIn_3 0 rfl rfl)
theorem dX7_readableIn_69 : decode cX7_readableIn 69 = .ok (.iinc 5 1, 3) := dk_132 5 1 (dk_at dksX7_readableIn_3 1 rfl rfl)
theorem dX7_readableIn_72 : decode cX7_readableIn 72 = .ok (.goto (-32), 3) := dk_167 255 224 (dk_at dksX7_readableIn_3 4 rfl rfl)
theorem dX7_readableIn_75 : decode cX7_readableIn 75 = .ok (.iinc 4 1, 3) := dk_132 4 1 (dk_at dksX7_readableIn_3 7 rfl rfl)
theorem dX7_readableIn_78 : decode cX7_readableIn 78 = .ok (.goto (-47), 3) := dk_167 255 209 (dk_at dksX7_readableIn_3 10 rfl rfl)
theorem dX7_readableIn_81 : decode cX7_readableIn 81 = .ok (.iload_n 3, 1) := dk_29 (dk_at dksX7_readableIn_3 13 rfl rfl)
theorem dX7_readableIn_82 : decode cX7_readableIn 82 = .ok (.ireturn, 1) := dk_172 (dk_at dksX7_readableIn_3 14 rfl rfl)
abbrev cX7_reads : ByteArray := prog_13_method_76_code
def yX7_reads : MethodName := ⟨RX7, "reads", "()I"⟩
def dkwX7_reads_0 : List UInt8 := [42, 3, 181, 0, 32, 42, 180, 0, 7, 16, 114, 46, 172]
abbrev dktX7_reads_0 : List UInt8 := dkwX7_reads_0 ++ []
theorem dksX7_reads_0 : cX7_reads.data.toList.drop 0 = dktX7_reads_0 := by decide +kernel
theorem dX7_reads_0 : decode cX7_reads 0 = .ok (.aload_n 0, 1) := dk_42 (dk_at dksX7_reads_0 0 rfl rfl)
theorem dX7_reads_1 : decode cX7_reads 1 = .ok (.iconst 0, 1) := dk_3 (dk_at dksX7_reads_0 1 rfl rfl)
theorem dX7_reads_2 : decode cX7_reads 2 = .ok (.putfield 32, 3) := dk_181 0 32 (dk_at dksX7_reads_0 2 rfl rfl)
theorem dX7_reads_5 : decode cX7_reads 5 = .ok (.aload_n 0, 1) := dk_42 (dk_at dksX7_reads_0 5 rfl rfl)
theorem dX7_reads_6 : decode cX7_reads 6 = .ok (.getfield 7, 3) := dk_180 0 7 (dk_at dksX7_reads_0 6 rfl rfl)
theorem dX7_reads_9 : decode cX7_reads 9 = .ok (.bipush 114, 2) := dk_16 114 (dk_at dksX7_reads_0 9 rfl rfl)
theorem dX7_reads_11 : decode cX7_reads 11 = .ok (.iaload, 1) := dk_46 (dk_at dksX7_reads_0 11 rfl rfl)
theorem dX7_reads_12 : decode cX7_reads 12 = .ok (.ireturn, 1) := dk_172 (dk_at dksX7_reads_0 12 rfl rfl)
abbrev cX7_failures : ByteArray := prog_13_method_77_code
def yX7_failures : MethodName := ⟨RX7, "failures", "()I"⟩
def dkwX7_failures_0 : List UInt8 := [42, 3, 181, 0, 32, 42, 180, 0, 7, 16, 115, 46, 172]
abbrev dktX7_failures_0 : List UInt8 := dkwX7_failures_0 ++ []
theorem dksX7_failures_0 : cX7_failures.data.toList.drop 0 = dktX7_failures_0 := by decide +kernel
theorem dX7_failures_0 : decode cX7_failures 0 = .ok (.aload_n 0, 1) := dk_42 (dk_at dksX7_failures_0 0 rfl rfl)
theorem dX7_failures_1 : decode cX7_failures 1 = .ok (.iconst 0, 1) := dk_3 (dk_at dksX7_failures_0 1 rfl rfl)
theorem dX7_failures_2 : decode cX7_failures 2 = .ok (.putfield 32, 3) := dk_181 0 32 (dk_at dksX7_failures_0 2 rfl rfl)
theorem dX7_failures_5 : decode cX7_failures 5 = .ok (.aload_n 0, 1) := dk_42 (dk_at dksX7_failures_0 5 rfl rfl)
theorem dX7_failures_6 : decode cX7_failures 6 = .ok (.getfield 7, 3) := dk_180 0 7 (dk_at dksX7_failures_0 6 rfl rfl)
theorem dX7_failures_9 : decode cX7_failures 9 = .ok (.bipush 115, 2) := dk_16 115 (dk_at dksX7_failures_0 9 rfl rfl)
theorem dX7_failures_11 : decode cX7_failures 11 = .ok (.iaload, 1) := dk_46 (dk_at dksX7_failures_0 11 rfl rfl)
theorem dX7_failures_12 : decode cX7_failures 12 = .ok (.ireturn, 1) := dk_172 (dk_at dksX7_failures_0 12 rfl rfl)
abbrev cX7_retriesByDrives : ByteArray := prog_13_method_79_code
def yX7_retriesByDrives : MethodName := ⟨RX7, "retriesByDrives", "()I"⟩
def dkwX7_retriesByDrives_0 : List UInt8 := [42, 3, 181, 0, 32, 42, 16, 116, 16, 120, 182, 0, 168, 172]
abbrev dktX7_retriesByDrives_0 : List UInt8 := dkwX7_retriesByDrives_0 ++ []
theorem dksX7_retriesByDrives_0 : cX7_retriesByDrives.data.toList.drop 0 = dktX7_retriesByDrives_0 := by decide +kernel
theorem dX7_retriesByDrives_0 : decode cX7_retriesByDrives 0 = .ok (.aload_n 0, 1) := dk_42 (dk_at dksX7_retriesByDrives_0 0 rfl rfl)
theorem dX7_retriesByDrives_1 : decode cX7_retriesByDrives 1 = .ok (.iconst 0, 1) := dk_3 (dk_at dksX7_retriesByDrives_0 1 rfl rfl)
theorem dX7_retriesByDrives_2 : decode cX7_retriesByDrives 2 = .ok (.putfield 32, 3) := dk_181 0 32 (dk_at dksX7_retriesByDrives_0 2 rfl rfl)
theorem dX7_retriesByDrives_5 : decode cX7_retriesByDrives 5 = .ok (.aload_n 0, 1) := dk_42 (dk_at dksX7_retriesByDrives_0 5 rfl rfl)
theorem dX7_retriesByDrives_6 : decode cX7_retriesByDrives 6 = .ok (.bipush 116, 2) := dk_16 116 (dk_at dksX7_retriesByDrives_0 6 rfl rfl)
theorem dX7_retriesByDrives_8 : decode cX7_retriesByDrives 8 = .ok (.bipush 120, 2) := dk_16 120 (dk_at dksX7_retriesByDrives_0 8 rfl rfl)
theorem dX7_retriesByDrives_10 : decode cX7_retriesByDrives 10 = .ok (.invokevirtual 168, 3) := dk_182 0 168 (dk_at dksX7_retriesByDrives_0 10 rfl rfl)
theorem dX7_retriesByDrives_13 : decode cX7_retriesByDrives 13 = .ok (.ireturn, 1) := dk_172 (dk_at dksX7_retriesByDrives_0 13 rfl rfl)
abbrev cX7_sum : ByteArray := prog_13_method_78_code
def yX7_sum : MethodName := ⟨RX7, "sum", "(II)I"⟩
def dkwX7_sum_1 : List UInt8 := [167, 255, 237, 29, 172]
abbrev dktX7_sum_1 : List UInt8 := dkwX7_sum_1 ++ []
def dkwX7_sum_0 : List UInt8 := [3, 62, 27, 54, 4, 21, 4, 28, 162, 0, 19, 29, 42, 180, 0, 7, 21, 4, 46, 96, 62, 132, 4, 1]
abbrev dktX7_sum_0 : List UInt8 := dkwX7_sum_0 ++ dktX7_sum_1
theorem dksX7_sum_0 : cX7_sum.data.toList.drop 0 = dktX7_sum_0 := by decide +kernel
theorem dksX7_sum_1 : cX7_sum.data.toList.drop 24 = dktX7_sum_1 := dk_seg dksX7_sum_0 24 rfl rfl
theorem dX7_sum_0 : decode cX7_sum 0 = .ok (.iconst 0, 1) := dk_3 (dk_at dksX7_sum_0 0 rfl rfl)
theorem dX7_sum_1 : decode cX7_sum 1 = .ok (.istore_n 3, 1) := dk_62 (dk_at dksX7_sum_0 1 rfl rfl)
theorem dX7_sum_2 : decode cX7_sum 2 = .ok (.iload_n 1, 1) := dk_27 (dk_at dksX7_sum_0 2 rfl rfl)
theorem dX7_sum_3 : decode cX7_sum 3 = .ok (.istore 4, 2) := dk_54 4 (dk_at dksX7_sum_0 3 rfl rfl)
theorem dX7_sum_5 : decode cX7_sum 5 = .ok (.iload 4, 2) := dk_21 4 (dk_at dksX7_sum_0 5 rfl rfl)
theorem dX7_sum_7 : decode cX7_sum 7 = .ok (.iload_n 2, 1) := dk_28 (dk_at dksX7_sum_0 7 rfl rfl)
theorem dX7_sum_8 : decode cX7_sum 8 = .ok (.if_icmp .ge 19, 3) := dk_162 0 19 (dk_at dksX7_sum_0 8 rfl rfl)
theorem dX7_sum_11 : decode cX7_sum 11 = .ok (.iload_n 3, 1) := dk_29 (dk_at dksX7_sum_0 11 rfl rfl)
theorem dX7_sum_12 : decode cX7_sum 12 = .ok (.aload_n 0, 1) := dk_42 (dk_at dksX7_sum_0 12 rfl rfl)
theorem dX7_sum_13 : decode cX7_sum 13 = .ok (.getfield 7, 3) := dk_180 0 7 (dk_at dksX7_sum_0 13 rfl rfl)
theorem dX7_sum_16 : decode cX7_sum 16 = .ok (.iload 4, 2) := dk_21 4 (dk_at dksX7_sum_0 16 rfl rfl)
theorem dX7_sum_18 : decode cX7_sum 18 = .ok (.iaload, 1) := dk_46 (dk_at dksX7_sum_0 18 rfl rfl)
theorem dX7_sum_19 : decode cX7_sum 19 = .ok (.iadd, 1) := dk_96 (dk_at dksX7_sum_0 19 rfl rfl)
theorem dX7_sum_20 : decode cX7_sum 20 = .ok (.istore_n 3, 1) := dk_62 (dk_at dksX7_sum_0 20 rfl rfl)
theorem dX7_sum_21 : decode cX7_sum 21 = .ok (.iinc 4 1, 3) := dk_132 4 1 (dk_at dksX7_sum_0 21 rfl rfl)
theorem dX7_sum_24 : decode cX7_sum 24 = .ok (.goto (-19), 3) := dk_167 255 237 (dk_at dksX7_sum_1 0 rfl rfl)
theorem dX7_sum_27 : decode cX7_sum 27 = .ok (.iload_n 3, 1) := dk_29 (dk_at dksX7_sum_1 3 rfl rfl)
theorem dX7_sum_28 : decode cX7_sum 28 = .ok (.ireturn, 1) := dk_172 (dk_at dksX7_sum_1 4 rfl rfl)
abbrev cX7_retriesByPacks : ByteArray := prog_13_method_80_code
def yX7_retriesByPacks : MethodName := ⟨RX7, "retriesByPacks", "()I"⟩
def dkwX7_retriesByPacks_0 : List UInt8 := [42, 3, 181, 0, 32, 42, 16, 120, 16, 126, 182, 0, 168, 172]
abbrev dktX7_retriesByPacks_0 : List UInt8 := dkwX7_retriesByPacks_0 ++ []
theorem dksX7_retriesByPacks_0 : cX7_retriesByPacks.data.toList.drop 0 = dktX7_retriesByPacks_0 := by decide +kernel
theorem dX7_retriesByPacks_0 : decode cX7_retriesByPacks 0 = .ok (.aload_n 0, 1) := dk_42 (dk_at dksX7_retriesByPacks_0 0 rfl rfl)
theorem dX7_retriesByPacks_1 : decode cX7_retriesByPacks 1 = .ok (.iconst 0, 1) := dk_3 (dk_at dksX7_retriesByPacks_0 1 rfl rfl)
theorem dX7_retriesByPacks_2 : decode cX7_retriesByPacks 2 = .ok (.putfield 32, 3) := dk_181 0 32 (dk_at dksX7_retriesByPacks_0 2 rfl rfl)
theorem dX7_retriesByPacks_5 : decode cX7_retriesByPacks 5 = .ok (.aload_n 0, 1) := dk_42 (dk_at dksX7_retriesByPacks_0 5 rfl rfl)
theorem dX7_retriesByPacks_6 : decode cX7_retriesByPacks 6 = .ok (.bipush 120, 2) := dk_16 120 (dk_at dksX7_retriesByPacks_0 6 rfl rfl)
theorem dX7_retriesByPacks_8 : decode cX7_retriesByPacks 8 = .ok (.bipush 126, 2) := dk_16 126 (dk_at dksX7_retriesByPacks_0 8 rfl rfl)
theorem dX7_retriesByPacks_10 : decode cX7_retriesByPacks 10 = .ok (.invokevirtual 168, 3) := dk_182 0 168 (dk_at dksX7_retriesByPacks_0 10 rfl rfl)
theorem dX7_retriesByPacks_13 : decode cX7_retriesByPacks 13 = .ok (.ireturn, 1) := dk_172 (dk_at dksX7_retriesByPacks_0 13 rfl rfl)
abbrev cX7_meanRetries : ByteArray := prog_13_method_81_code
def yX7_meanRetries : MethodName := ⟨RX7, "meanRetries", "()D"⟩
def dkwX7_meanRetries_1 : List UInt8 := [154, 0, 7, 14, 167, 0, 15, 42, 16, 116, 16, 120, 182, 0, 168, 135, 27, 135, 111, 175]
abbrev dktX7_meanRetries_1 : List UInt8 := dkwX7_meanRetries_1 ++ []
def dkwX7_meanRetries_0 : List UInt8 := [42, 3, 181, 0, 32, 42, 180, 0, 7, 16, 114, 46, 42, 180, 0, 7, 16, 115, 46, 96, 60, 27]
abbrev dktX7_meanRetries_0 : List UInt8 := dkwX7_meanRetries_0 ++ dktX7_meanRetries_1
theorem dksX7_meanRetries_0 : cX7_meanRetries.data.toList.drop 0 = dktX7_meanRetries_0 := by decide +kernel
theorem dksX7_meanRetries_1 : cX7_meanRetries.data.toList.drop 22 = dktX7_meanRetries_1 := dk_seg dksX7_meanRetries_0 22 rfl rfl
theorem dX7_meanRetries_0 : decode cX7_meanRetries 0 = .ok (.aload_n 0, 1) := dk_42 (dk_at dksX7_meanRetries_0 0 rfl rfl)
theorem dX7_meanRetries_1 : decode cX7_meanRetries 1 = .ok (.iconst 0, 1) := dk_3 (dk_at dksX7_meanRetries_0 1 rfl rfl)
theorem dX7_meanRetries_2 : decode cX7_meanRetries 2 = .ok (.putfield 32, 3) := dk_181 0 32 (dk_at dksX7_meanRetries_0 2 rfl rfl)
theorem dX7_meanRetries_5 : decode cX7_meanRetries 5 = .ok (.aload_n 0, 1) := dk_42 (dk_at dksX7_meanRetries_0 5 rfl rfl)
theorem dX7_meanRetries_6 : decode cX7_meanRetries 6 = .ok (.getfield 7, 3) := dk_180 0 7 (dk_at dksX7_meanRetries_0 6 rfl rfl)
theorem dX7_meanRetries_9 : decode cX7_meanRetries 9 = .ok (.bipush 114, 2) := dk_16 114 (dk_at dksX7_meanRetries_0 9 rfl rfl)
theorem dX7_meanRetries_11 : decode cX7_meanRetries 11 = .ok (.iaload, 1) := dk_46 (dk_at dksX7_meanRetries_0 11 rfl rfl)
theorem dX7_meanRetries_12 : decode cX7_meanRetries 12 = .ok (.aload_n 0, 1) := dk_42 (dk_at dksX7_meanRetries_0 12 rfl rfl)
theorem dX7_meanRetries_13 : decode cX7_meanRetries 13 = .ok (.getfield 7, 3) := dk_180 0 7 (dk_at dksX7_meanRetries_0 13 rfl rfl)
theorem dX7_meanRetries_16 : decode cX7_meanRetries 16 = .ok (.bipush 115, 2) := dk_16 115 (dk_at dksX7_meanRetries_0 16 rfl rfl)
theorem dX7_meanRetries_18 : decode cX7_meanRetries 18 = .ok (.iaload, 1) := dk_46 (dk_at dksX7_meanRetries_0 18 rfl rfl)
theorem dX7_meanRetries_19 : decode cX7_meanRetries 19 = .ok (.iadd, 1) := dk_96 (dk_at dksX7_meanRetries_0 19 rfl rfl)
theorem dX7_meanRetries_20 : decode cX7_meanRetries 20 = .ok (.istore_n 1, 1) := dk_60 (dk_at dksX7_meanRetries_0 20 rfl rfl)
theorem dX7_meanRetries_21 : decode cX7_meanRetries 21 = .ok (.iload_n 1, 1) := dk_27 (dk_at dksX7_meanRetries_0 21 rfl rfl)
theorem dX7_meanRetries_22 : decode cX7_meanRetries 22 = .ok (.ifCond .ne 7, 3) := dk_154 0 7 (dk_at dksX7_meanRetries_1 0 rfl rfl)
theorem dX7_meanRetries_25 : decode cX7_meanRetries 25 = .ok (.dconst 0, 1) := dk_14 (dk_at dksX7_meanRetries_1 3 rfl rfl)
theorem dX7_meanRetries_26 : decode cX7_meanRetries 26 = .ok (.goto 15, 3) := dk_167 0 15 (dk_at dksX7_meanRetries_1 4 rfl rfl)
theorem dX7_meanRetries_29 : decode cX7_meanRetries 29 = .ok (.aload_n 0, 1) := dk_42 (dk_at dksX7_meanRetries_1 7 rfl rfl)
theorem dX7_meanRetries_30 : decode cX7_meanRetries 30 = .ok (.bipush 116, 2) := dk_16 116 (dk_at dksX7_meanRetries_1 8 rfl rfl)
theorem dX7_meanRetries_32 : decode cX7_meanRetries 32 = .ok (.bipush 120, 2) := dk_16 120 (dk_at dksX7_meanRetries_1 10 rfl rfl)
theorem dX7_meanRetries_34 : decode cX7_meanRetries 34 = .ok (.invokevirtual 168, 3) := dk_182 0 168 (dk_at dksX7_meanRetries_1 12 rfl rfl)
theorem dX7_meanRetries_37 : decode cX7_meanRetries 37 = .ok (.i2d, 1) := dk_135 (dk_at dksX7_meanRetries_1 15 rfl rfl)
theorem dX7_meanRetries_38 : decode cX7_meanRetries 38 = .ok (.iload_n 1, 1) := dk_27 (dk_at dksX7_meanRetries_1 16 rfl rfl)
theorem dX7_meanRetries_39 : decode cX7_meanRetries 39 = .ok (.i2d, 1) := dk_135 (dk_at dksX7_meanRetries_1 17 rfl rfl)
theorem dX7_meanRetries_40 : decode cX7_meanRetries 40 = .ok (.ddiv, 1) := dk_111 (dk_at dksX7_meanRetries_1 18 rfl rfl)
theorem dX7_meanRetries_41 : decode cX7_meanRetries 41 = .ok (.dreturn, 1) := dk_175 (dk_at dksX7_meanRetries_1 19 rfl rfl)
abbrev cX7_append : ByteArray := prog_13_method_82_code
def yX7_append : MethodName := ⟨RX7, "append", "(I)I"⟩
def dkwX7_append_2 : List UInt8 := [42, 89, 180, 0, 171, 4, 96, 181, 0, 171, 42, 180, 0, 171, 172]
abbrev dktX7_append_2 : List UInt8 := dkwX7_append_2 ++ []
def dkwX7_append_1 : List UInt8 := [180, 0, 171, 16, 60, 160, 0, 9, 42, 5, 182, 0, 78, 172, 42, 180, 0, 29, 42, 180, 0, 171, 27, 79]
abbrev dktX7_append_1 : List UInt8 := dkwX7_append_1 ++ dktX7_append_2
def dkwX7_append_0 : List UInt8 := [42, 3, 181, 0, 32, 27, 16, 32, 16, 126, 184, 0, 36, 154, 0, 9, 42, 4, 182, 0, 78, 172, 42]
abbrev dktX7_append_0 : List UInt8 := dkwX7_append_0 ++ dktX7_append_1
theorem dksX7_append_0 : cX7_append.data.toList.drop 0 = dktX7_append_0 := by decide +kernel
theorem dksX7_append_1 : cX7_append.data.toList.drop 23 = dktX7_append_1 := dk_seg dksX7_append_0 23 rfl rfl
theorem dksX7_append_2 : cX7_append.data.toList.drop 47 = dktX7_append_2 := dk_seg dksX7_append_1 24 rfl rfl
theorem dX7_append_0 : decode cX7_append 0 = .ok (.aload_n 0, 1) := dk_42 (dk_at dksX7_append_0 0 rfl rfl)
theorem dX7_append_1 : decode cX7_append 1 = .ok (.iconst 0, 1) := dk_3 (dk_at dksX7_append_0 1 rfl rfl)
theorem dX7_append_2 : decode cX7_append 2 = .ok (.putfield 32, 3) := dk_181 0 32 (dk_at dksX7_append_0 2 rfl rfl)
theorem dX7_append_5 : decode cX7_append 5 = .ok (.iload_n 1, 1) := dk_27 (dk_at dksX7_append_0 5 rfl rfl)
theorem dX7_append_6 : decode cX7_append 6 = .ok (.bipush 32, 2) := dk_16 32 (dk_at dksX7_append_0 6 rfl rfl)
theorem dX7_append_8 : decode cX7_append 8 = .ok (.bipush 126, 2) := dk_16 126 (dk_at dksX7_append_0 8 rfl rfl)
theorem dX7_append_10 : decode cX7_append 10 = .ok (.invokestatic 36, 3) := dk_184 0 36 (dk_at dksX7_append_0 10 rfl rfl)
theorem dX7_append_13 : decode cX7_append 13 = .ok (.ifCond .ne 9, 3) := dk_154 0 9 (dk_at dksX7_append_0 13 rfl rfl)
theorem dX7_append_16 : decode cX7_append 16 = .ok (.aload_n 0, 1) := dk_42 (dk_at dksX7_append_0 16 rfl rfl)
theorem dX7_append_17 : decode cX7_append 17 = .ok (.iconst 1, 1) := dk_4 (dk_at dksX7_append_0 17 rfl rfl)
theorem dX7_append_18 : decode cX7_append 18 = .ok (.invokevirtual 78, 3) := dk_182 0 78 (dk_at dksX7_append_0 18 rfl rfl)
theorem dX7_append_21 : decode cX7_append 21 = .ok (.ireturn, 1) := dk_172 (dk_at dksX7_append_0 21 rfl rfl)
theorem dX7_append_22 : decode cX7_append 22 = .ok (.aload_n 0, 1) := dk_42 (dk_at dksX7_append_0 22 rfl rfl)
theorem dX7_append_23 : decode cX7_append 23 = .ok (.getfield 171, 3) := dk_180 0 171 (dk_at dksX7_append_1 0 rfl rfl)
theorem dX7_append_26 : decode cX7_append 26 = .ok (.bipush 60, 2) := dk_16 60 (dk_at dksX7_append_1 3 rfl rfl)
theorem dX7_append_28 : decode cX7_append 28 = .ok (.if_icmp .ne 9, 3) := dk_160 0 9 (dk_at dksX7_append_1 5 rfl rfl)
theorem dX7_append_31 : decode cX7_append 31 = .ok (.aload_n 0, 1) := dk_42 (dk_at dksX7_append_1 8 rfl rfl)
theorem dX7_append_32 : decode cX7_append 32 = .ok (.iconst 2, 1) := dk_5 (dk_at dksX7_append_1 9 rfl rfl)
theorem dX7_append_33 : decode cX7_append 33 = .ok (.invokevirtual 78, 3) := dk_182 0 78 (dk_at dksX7_append_1 10 rfl rfl)
theorem dX7_append_36 : decode cX7_append 36 = .ok (.ireturn, 1) := dk_172 (dk_at dksX7_append_1 13 rfl rfl)
theorem dX7_append_37 : decode cX7_append 37 = .ok (.aload_n 0, 1) := dk_42 (dk_at dksX7_append_1 14 rfl rfl)
theorem dX7_append_38 : decode cX7_append 38 = .ok (.getfield 29, 3) := dk_180 0 29 (dk_at dksX7_append_1 15 rfl rfl)
theorem dX7_append_41 : decode cX7_append 41 = .ok (.aload_n 0, 1) := dk_42 (dk_at dksX7_append_1 18 rfl rfl)
theorem dX7_append_42 : decode cX7_append 42 = .ok (.getfield 171, 3) := dk_180 0 171 (dk_at dksX7_append_1 19 rfl rfl)
theorem dX7_append_45 : decode cX7_append 45 = .ok (.iload_n 1, 1) := dk_27 (dk_at dksX7_append_1 22 rfl rfl)
theorem dX7_append_46 : decode cX7_append 46 = .ok (.iastore, 1) := dk_79 (dk_at dksX7_append_1 23 rfl rfl)
theorem dX7_append_47 : decode cX7_append 47 = .ok (.aload_n 0, 1) := dk_42 (dk_at dksX7_append_2 0 rfl rfl)
theorem dX7_append_48 : decode cX7_append 48 = .ok (.dup, 1) := dk_89 (dk_at dksX7_append_2 1 rfl rfl)
theorem dX7_append_49 : decode cX7_append 49 = .ok (.getfield 171, 3) := dk_180 0 171 (dk_at dksX7_append_2 2 rfl rfl)
theorem dX7_append_52 : decode cX7_append 52 = .ok (.iconst 1, 1) := dk_4 (dk_at dksX7_append_2 5 rfl rfl)
theorem dX7_append_53 : decode cX7_append 53 = .ok (.iadd, 1) := dk_96 (dk_at dksX7_append_2 6 rfl rfl)
theorem dX7_append_54 : decode cX7_append 54 = .ok (.putfield 171, 3) := dk_181 0 171 (dk_at dksX7_append_2 7 rfl rfl)
theorem dX7_append_57 : decode cX7_append 57 = .ok (.aload_n 0, 1) := dk_42 (dk_at dksX7_append_2 10 rfl rfl)
theorem dX7_append_58 : decode cX7_append 58 = .ok (.getfield 171, 3) := dk_180 0 171 (dk_at dksX7_append_2 11 rfl rfl)
theorem dX7_append_61 : decode cX7_append 61 = .ok (.ireturn, 1) := dk_172 (dk_at dksX7_append_2 14 rfl rfl)
abbrev cX7_clearText : ByteArray := prog_13_method_83_code
def yX7_clearText : MethodName := ⟨RX7, "clearText", "()I"⟩
def dkwX7_clearText_0 : List UInt8 := [42, 3, 181, 0, 32, 42, 180, 0, 171, 60, 42, 3, 181, 0, 171, 27, 172]
abbrev dktX7_clearText_0 : List UInt8 := dkwX7_clearText_0 ++ []
theorem dksX7_clearText_0 : cX7_clearText.data.toList.drop 0 = dktX7_clearText_0 := by decide +kernel
theorem dX7_clearText_0 : decode cX7_clearText 0 = .ok (.aload_n 0, 1) := dk_42 (dk_at dksX7_clearText_0 0 rfl rfl)
theorem dX7_clearText_1 : decode cX7_clearText 1 = .ok (.iconst 0, 1) := dk_3 (dk_at dksX7_clearText_0 1 rfl rfl)
theorem dX7_clearText_2 : decode cX7_clearText 2 = .ok (.putfield 32, 3) := dk_181 0 32 (dk_at dksX7_clearText_0 2 rfl rfl)
theorem dX7_clearText_5 : decode cX7_clearText 5 = .ok (.aload_n 0, 1) := dk_42 (dk_at dksX7_clearText_0 5 rfl rfl)
theorem dX7_clearText_6 : decode cX7_clearText 6 = .ok (.getfield 171, 3) := dk_180 0 171 (dk_at dksX7_clearText_0 6 rfl rfl)
theorem dX7_clearText_9 : decode cX7_clearText 9 = .ok (.istore_n 1, 1) := dk_60 (dk_at dksX7_clearText_0 9 rfl rfl)
theorem dX7_clearText_10 : decode cX7_clearText 10 = .ok (.aload_n 0, 1) := dk_42 (dk_at dksX7_clearText_0 10 rfl rfl)
theorem dX7_clearText_11 : decode cX7_clearText 11 = .ok (.iconst 0, 1) := dk_3 (dk_at dksX7_clearText_0 11 rfl rfl)
theorem dX7_clearText_12 : decode cX7_clearText 12 = .ok (.putfield 171, 3) := dk_181 0 171 (dk_at dksX7_clearText_0 12 rfl rfl)
theorem dX7_clearText_15 : decode cX7_clearText 15 = .ok (.iload_n 1, 1) := dk_27 (dk_at dksX7_clearText_0 15 rfl rfl)
theorem dX7_clearText_16 : decode cX7_clearText 16 = .ok (.ireturn, 1) := dk_172 (dk_at dksX7_clearText_0 16 rfl rfl)
abbrev cX7_errorPosition : ByteArray := prog_13_method_89_code
def yX7_errorPosition : MethodName := ⟨RX7, "errorPosition", "()I"⟩
def dkwX7_errorPosition_0 : List UInt8 := [42, 3, 181, 0, 32, 42, 182, 0, 207, 153, 0, 10, 42, 180, 0, 171, 167, 0, 7, 42, 180, 0, 174, 172]
abbrev dktX7_errorPosition_0 : List UInt8 := dkwX7_errorPosition_0 ++ []
theorem dksX7_errorPosition_0 : cX7_errorPosition.data.toList.drop 0 = dktX7_errorPosition_0 := by decide +kernel
theorem dX7_errorPosition_0 : decode cX7_errorPosition 0 = .ok (.aload_n 0, 1) := dk_42 (dk_at dksX7_errorPosition_0 0 rfl rfl)
theorem dX7_errorPosition_1 : decode cX7_errorPosition 1 = .ok (.iconst 0, 1) := dk_3 (dk_at dksX7_errorPosition_0 1 rfl rfl)
theorem dX7_errorPosition_2 : decode cX7_errorPosition 2 = .ok (.putfield 32, 3) := dk_181 0 32 (dk_at dksX7_errorPosition_0 2 rfl rfl)
theorem dX7_errorPosition_5 : decode cX7_errorPosition 5 = .ok (.aload_n 0, 1) := dk_42 (dk_at dksX7_errorPosition_0 5 rfl rfl)
theorem dX7_errorPosition_6 : decode cX7_errorPosition 6 = .ok (.invokevirtual 207, 3) := dk_182 0 207 (dk_at dksX7_errorPosition_0 6 rfl rfl)
theorem dX7_errorPosition_9 : decode cX7_errorPosition 9 = .ok (.ifCond .eq 10, 3) := dk_153 0 10 (dk_at dksX7_errorPosition_0 9 rfl rfl)
theorem dX7_errorPosition_12 : decode cX7_errorPosition 12 = .ok (.aload_n 0, 1) := dk_42 (dk_at dksX7_errorPosition_0 12 rfl rfl)
theorem dX7_errorPosition_13 : decode cX7_errorPosition 13 = .ok (.getfield 171, 3) := dk_180 0 171 (dk_at dksX7_errorPosition_0 13 rfl rfl)
theorem dX7_errorPosition_16 : decode cX7_errorPosition 16 = .ok (.goto 7, 3) := dk_167 0 7 (dk_at dksX7_errorPosition_0 16 rfl rfl)
theorem dX7_errorPosition_19 : decode cX7_errorPosition 19 = .ok (.aload_n 0, 1) := dk_42 (dk_at dksX7_errorPosition_0 19 rfl rfl)
theorem dX7_errorPosition_20 : decode cX7_errorPosition 20 = .ok (.getfield 174, 3) := dk_180 0 174 (dk_at dksX7_errorPosition_0 20 rfl rfl)
theorem dX7_errorPosition_23 : decode cX7_errorPosition 23 = .ok (.ireturn, 1) := dk_172 (dk_at dksX7_errorPosition_0 23 rfl rfl)
abbrev cX7_isText : ByteArray := prog_13_method_88_code
def yX7_isText : MethodName := ⟨RX7, "isText", "()Z"⟩
def dkwX7_isText_2 : List UInt8 := [42, 182, 0, 177, 182, 0, 203, 167, 255, 214, 42, 180, 0, 181, 172]
abbrev dktX7_isText_2 : List UInt8 := dkwX7_isText_2 ++ []
def dkwX7_isText_1 : List UInt8 := [42, 180, 0, 171, 162, 0, 30, 42, 16, 59, 16, 59, 182, 0, 185, 60, 42, 180, 0, 181, 153, 0, 11, 42]
abbrev dktX7_isText_1 : List UInt8 := dkwX7_isText_1 ++ dktX7_isText_2
def dkwX7_isText_0 : List UInt8 := [42, 3, 181, 0, 174, 42, 42, 182, 0, 177, 182, 0, 203, 42, 180, 0, 181, 153, 0, 41, 42, 180, 0, 174]
abbrev dktX7_isText_0 : List UInt8 := dkwX7_isText_0 ++ dktX7_isText_1
theorem dksX7_isText_0 : cX7_isText.data.toList.drop 0 = dktX7_isText_0 := by decide +kernel
theorem dksX7_isText_1 : cX7_isText.data.toList.drop 24 = dktX7_isText_1 := dk_seg dksX7_isText_0 24 rfl rfl
theorem dksX7_isText_2 : cX7_isText.data.toList.drop 48 = dktX7_isText_2 := dk_seg dksX7_isText_1 24 rfl rfl
theorem dX7_isText_0 : decode cX7_isText 0 = .ok (.aload_n 0, 1) := dk_42 (dk_at dksX7_isText_0 0 rfl rfl)
theorem dX7_isText_1 : decode cX7_isText 1 = .ok (.iconst 0, 1) := dk_3 (dk_at dksX7_isText_0 1 rfl rfl)
theorem dX7_isText_2 : decode cX7_isText 2 = .ok (.putfield 174, 3) := dk_181 0 174 (dk_at dksX7_isText_0 2 rfl rfl)
theorem dX7_isText_5 : decode cX7_isText 5 = .ok (.aload_n 0, 1) := dk_42 (dk_at dksX7_isText_0 5 rfl rfl)
theorem dX7_isText_6 : decode cX7_isText 6 = .ok (.aload_n 0, 1) := dk_42 (dk_at dksX7_isText_0 6 rfl rfl)
theorem dX7_isText_7 : decode cX7_isText 7 = .ok (.invokevirtual 177, 3) := dk_182 0 177 (dk_at dksX7_isText_0 7 rfl rfl)
theorem dX7_isText_10 : decode cX7_isText 10 = .ok (.invokevirtual 203, 3) := dk_182 0 203 (dk_at dksX7_isText_0 10 rfl rfl)
theorem dX7_isText_13 : decode cX7_isText 13 = .ok (.aload_n 0, 1) := dk_42 (dk_at dksX7_isText_0 13 rfl rfl)
theorem dX7_isText_14 : decode cX7_isText 14 = .ok (.getfield 181, 3) := dk_180 0 181 (dk_at dksX7_isText_0 14 rfl rfl)
theorem dX7_isText_17 : decode cX7_isText 17 = .ok (.ifCond .eq 41, 3) := dk_153 0 41 (dk_at dksX7_isText_0 17 rfl rfl)
theorem dX7_isText_20 : decode cX7_isText 20 = .ok (.aload_n 0, 1) := dk_42 (dk_at dksX7_isText_0 20 rfl rfl)
theorem dX7_isText_21 : decode cX7_isText 21 = .ok (.getfield 174, 3) := dk_180 0 174 (dk_at dksX7_isText_0 21 rfl rfl)
theorem dX7_isText_24 : decode cX7_isText 24 = .ok (.aload_n 0, 1) := dk_42 (dk_at dksX7_isText_1 0 rfl rfl)
theorem dX7_isText_25 : decode cX7_isText 25 = .ok (.getfield 171, 3) := dk_180 0 171 (dk_at dksX7_isText_1 1 rfl rfl)
theorem dX7_isText_28 : decode cX7_isText 28 = .ok (.if_icmp .ge 30, 3) := dk_162 0 30 (dk_at dksX7_isText_1 4 rfl rfl)
theorem dX7_isText_31 : decode cX7_isText 31 = .ok (.aload_n 0, 1) := dk_42 (dk_at dksX7_isText_1 7 rfl rfl)
theorem dX7_isText_32 : decode cX7_isText 32 = .ok (.bipush 59, 2) := dk_16 59 (dk_at dksX7_isText_1 8 rfl rfl)
theorem dX7_isText_34 : decode cX7_isText 34 = .ok (.bipush 59, 2) := dk_16 59 (dk_at dksX7_isText_1 10 rfl rfl)
theorem dX7_isText_36 : decode cX7_isText 36 = .ok (.invokevirtual 185, 3) := dk_182 0 185 (dk_at dksX7_isText_1 12 rfl rfl)
theorem dX7_isText_39 : decode cX7_isText 39 = .ok (.istore_n 1, 1) := dk_60 (dk_at dksX7_isText_1 15 rfl rfl)
theorem dX7_isText_40 : decode cX7_isText 40 = .ok (.aload_n 0, 1) := dk_42 (dk_at dksX7_isText_1 16 rfl rfl)
theorem dX7_isText_41 : decode cX7_isText 41 = .ok (.getfield 181, 3) := dk_180 0 181 (dk_at dksX7_isText_1 17 rfl rfl)
theorem dX7_isText_44 : decode cX7_isText 44 = .ok (.ifCond .eq 11, 3) := dk_153 0 11 (dk_at dksX7_isText_1 20 rfl rfl)
theorem dX7_isText_47 : decode cX7_isText 47 = .ok (.aload_n 0, 1) := dk_42 (dk_at dksX7_isText_1 23 rfl rfl)
theorem dX7_isText_48 : decode cX7_isText 48 = .ok (.aload_n 0, 1) := dk_42 (dk_at dksX7_isText_2 0 rfl rfl)
theorem dX7_isText_49 : decode cX7_isText 49 = .ok (.invokevirtual 177, 3) := dk_182 0 177 (dk_at dksX7_isText_2 1 rfl rfl)
theorem dX7_isText_52 : decode cX7_isText 52 = .ok (.invokevirtual 203, 3) := dk_182 0 203 (dk_at dksX7_isText_2 4 rfl rfl)
theorem dX7_isText_55 : decode cX7_isText 55 = .ok (.goto (-42), 3) := dk_167 255 214 (dk_at dksX7_isText_2 7 rfl rfl)
theorem dX7_isText_58 : decode cX7_isText 58 = .ok (.aload_n 0, 1) := dk_42 (dk_at dksX7_isText_2 10 rfl rfl)
theorem dX7_isText_59 : decode cX7_isText 59 = .ok (.getfield 181, 3) := dk_180 0 181 (dk_at dksX7_isText_2 11 rfl rfl)
theorem dX7_isText_62 : decode cX7_isText 62 = .ok (.ireturn, 1) := dk_172 (dk_at dksX7_isText_2 14 rfl rfl)
abbrev cX7_sign : ByteArray := prog_13_method_84_code
def yX7_sign : MethodName := ⟨RX7, "sign", "()I"⟩
def dkwX7_sign_1 : List UInt8 := [172]
abbrev dktX7_sign_1 : List UInt8 := dkwX7_sign_1 ++ []
def dkwX7_sign_0 : List UInt8 := [42, 180, 0, 174, 42, 180, 0, 171, 162, 0, 15, 42, 180, 0, 29, 42, 180, 0, 174, 46, 167, 0, 4, 3]
abbrev dktX7_sign_0 : List UInt8 := dkwX7_sign_0 ++ dktX7_sign_1
theorem dksX7_sign_0 : cX7_sign.data.toList.drop 0 = dktX7_sign_0 := by decide +kernel
theorem dksX7_sign_1 : cX7_sign.data.toList.drop 24 = dktX7_sign_1 := dk_seg dksX7_sign_0 24 rfl rfl
theorem dX7_sign_0 : decode cX7_sign 0 = .ok (.aload_n 0, 1) := dk_42 (dk_at dksX7_sign_0 0 rfl rfl)
theorem dX7_sign_1 : decode cX7_sign 1 = .ok (.getfield 174, 3) := dk_180 0 174 (dk_at dksX7_sign_0 1 rfl rfl)
theorem dX7_sign_4 : decode cX7_sign 4 = .ok (.aload_n 0, 1) := dk_42 (dk_at dksX7_sign_0 4 rfl rfl)
theorem dX7_sign_5 : decode cX7_sign 5 = .ok (.getfield 171, 3) := dk_180 0 171 (dk_at dksX7_sign_0 5 rfl rfl)
theorem dX7_sign_8 : decode cX7_sign 8 = .ok (.if_icmp .ge 15, 3) := dk_162 0 15 (dk_at dksX7_sign_0 8 rfl rfl)
theorem dX7_sign_11 : decode cX7_sign 11 = .ok (.aload_n 0, 1) := dk_42 (dk_at dksX7_sign_0 11 rfl rfl)
theorem dX7_sign_12 : decode cX7_sign 12 = .ok (.getfield 29, 3) := dk_180 0 29 (dk_at dksX7_sign_0 12 rfl rfl)
theorem dX7_sign_15 : decode cX7_sign 15 = .ok (.aload_n 0, 1) := dk_42 (dk_at dksX7_sign_0 15 rfl rfl)
theorem dX7_sign_16 : decode cX7_sign 16 = .ok (.getfield 174, 3) := dk_180 0 174 (dk_at dksX7_sign_0 16 rfl rfl)
theorem dX7_sign_19 : decode cX7_sign 19 = .ok (.iaload, 1) := dk_46 (dk_at dksX7_sign_0 19 rfl rfl)
theorem dX7_sign_20 : decode cX7_sign 20 = .ok (.goto 4, 3) := dk_167 0 4 (dk_at dksX7_sign_0 20 rfl rfl)
theorem dX7_sign_23 : decode cX7_sign 23 = .ok (.iconst 0, 1) := dk_3 (dk_at dksX7_sign_0 23 rfl rfl)
theorem dX7_sign_24 : decode cX7_sign 24 = .ok (.ireturn, 1) := dk_172 (dk_at dksX7_sign_1 0 rfl rfl)
abbrev cX7_part : ByteArray := prog_13_method_87_code
def yX7_part : MethodName := ⟨RX7, "part", "(I)V"⟩
def dkwX7_part_13 : List UInt8 := [180, 0, 194, 4, 160, 0, 8, 16, 43, 167, 0, 5, 16, 45, 182, 0, 185, 61, 177]
abbrev dktX7_part_13 : List UInt8 := dkwX7_part_13 ++ []
def dkwX7_part_12 : List UInt8 := [167, 0, 4, 3, 181, 0, 194, 42, 42, 180, 0, 194, 4, 160, 0, 8, 16, 43, 167, 0, 5, 16, 45, 42]
abbrev dktX7_part_12 : List UInt8 := dkwX7_part_12 ++ dktX7_part_13
def dkwX7_part_11 : List UInt8 := [181, 0, 197, 167, 0, 62, 27, 16, 118, 160, 0, 56, 42, 42, 182, 0, 177, 16, 43, 160, 0, 7, 4]
abbrev dktX7_part_11 : List UInt8 := dkwX7_part_11 ++ dktX7_part_12
def dkwX7_part_10 : List UInt8 := [16, 119, 160, 0, 23, 42, 16, 61, 16, 61, 182, 0, 185, 61, 42, 42, 17, 3, 231, 182, 0, 200]
abbrev dktX7_part_10 : List UInt8 := dkwX7_part_10 ++ dktX7_part_11
def dkwX7_part_9 : List UInt8 := [27, 16, 102, 160, 0, 8, 16, 51, 167, 0, 5, 16, 50, 182, 0, 185, 16, 48, 100, 181, 0, 194, 27]
abbrev dktX7_part_9 : List UInt8 := dkwX7_part_9 ++ dktX7_part_10
def dkwX7_part_8 : List UInt8 := [16, 114, 159, 0, 9, 27, 16, 102, 160, 0, 67, 42, 16, 46, 16, 46, 182, 0, 185, 61, 42, 42, 16, 48]
abbrev dktX7_part_8 : List UInt8 := dkwX7_part_8 ++ dktX7_part_9
def dkwX7_part_7 : List UInt8 := [182, 0, 185, 61, 42, 42, 16, 39, 182, 0, 200, 181, 0, 194, 167, 0, 144, 27, 16, 119, 159, 0, 15, 27]
abbrev dktX7_part_7 : List UInt8 := dkwX7_part_7 ++ dktX7_part_8
def dkwX7_part_6 : List UInt8 := [182, 0, 185, 16, 48, 100, 181, 0, 194, 167, 0, 172, 27, 16, 115, 160, 0, 25, 42, 16, 58, 16, 58]
abbrev dktX7_part_6 : List UInt8 := dkwX7_part_6 ++ dktX7_part_7
def dkwX7_part_5 : List UInt8 := [181, 0, 197, 27, 16, 109, 160, 0, 30, 42, 16, 61, 16, 61, 182, 0, 185, 61, 42, 42, 16, 48, 16, 53]
abbrev dktX7_part_5 : List UInt8 := dkwX7_part_5 ++ dktX7_part_6
def dkwX7_part_4 : List UInt8 := [16, 53, 167, 0, 5, 16, 51, 182, 0, 185, 16, 48, 100, 181, 0, 191, 42, 3, 181, 0, 194, 42, 3]
abbrev dktX7_part_4 : List UInt8 := dkwX7_part_4 ++ dktX7_part_5
def dkwX7_part_3 : List UInt8 := [167, 0, 4, 3, 96, 181, 0, 174, 42, 27, 181, 0, 188, 42, 42, 16, 48, 27, 16, 99, 160, 0, 8]
abbrev dktX7_part_3 : List UInt8 := dkwX7_part_3 ++ dktX7_part_4
def dkwX7_part_2 : List UInt8 := [160, 0, 7, 4, 167, 0, 4, 3, 181, 0, 181, 42, 89, 180, 0, 174, 42, 180, 0, 181, 153, 0, 7, 4]
abbrev dktX7_part_2 : List UInt8 := dkwX7_part_2 ++ dktX7_part_3
def dkwX7_part_1 : List UInt8 := [159, 0, 27, 27, 16, 114, 159, 0, 21, 27, 16, 118, 159, 0, 15, 27, 16, 99, 159, 0, 9, 27, 16, 102]
abbrev dktX7_part_1 : List UInt8 := dkwX7_part_1 ++ dktX7_part_2
def dkwX7_part_0 : List UInt8 := [42, 27, 16, 109, 159, 0, 45, 27, 16, 117, 159, 0, 39, 27, 16, 115, 159, 0, 33, 27, 16, 119]
abbrev dktX7_part_0 : List UInt8 := dkwX7_part_0 ++ dktX7_part_1
theorem dksX7_part_0 : cX7_part.data.toList.drop 0 = dktX7_part_0 := by decide +kernel
theorem dksX7_part_1 : cX7_part.data.toList.drop 22 = dktX7_part_1 := dk_seg dksX7_part_0 22 rfl rfl
theorem dksX7_part_2 : cX7_part.data.toList.drop 46 = dktX7_part_2 := dk_seg dksX7_part_1 24 rfl rfl
theorem dksX7_part_3 : cX7_part.data.toList.drop 70 = dktX7_part_3 := dk_seg dksX7_part_2 24 rfl rfl
theorem dksX7_part_4 : cX7_part.data.toList.drop 93 = dktX7_part_4 := dk_seg dksX7_part_3 23 rfl rfl
theorem dksX7_part_5 : cX7_part.data.toList.drop 116 = dktX7_part_5 := dk_seg dksX7_part_4 23 rfl rfl
theorem dksX7_part_6 : cX7_part.data.toList.drop 140 = dktX7_part_6 := dk_seg dksX7_part_5 24 rfl rfl
theorem dksX7_part_7 : cX7_part.data.toList.drop 163 = dktX7_part_7 := dk_seg dksX7_part_6 23 rfl rfl
theorem dksX7_part_8 : cX7_part.data.toList.drop 187 = dktX7_part_8 := dk_seg dksX7_part_7 24 rfl rfl
theorem dksX7_part_9 : cX7_part.data.toList.drop 211 = dktX7_part_9 := dk_seg dksX7_part_8 24 rfl rfl
theorem dksX7_part_10 : cX7_part.data.toList.drop 234 = dktX7_part_10 := dk_seg dksX7_part_9 23 rfl rfl
theorem dksX7_part_11 : cX7_part.data.toList.drop 256 = dktX7_part_11 := dk_seg dksX7_part_10 22 rfl rfl
theorem dksX7_part_12 : cX7_part.data.toList.drop 279 = dktX7_part_12 := dk_seg dksX7_part_11 23 rfl rfl
theorem dksX7_part_13 : cX7_part.data.toList.drop 303 = dktX7_part_13 := dk_seg dksX7_part_12 24 rfl rfl
theorem dX7_part_0 : decode cX7_part 0 = .ok (.aload_n 0, 1) := dk_42 (dk_at dksX7_part_0 0 rfl rfl)
theorem dX7_part_1 : decode cX7_part 1 = .ok (.iload_n 1, 1) := dk_27 (dk_at dksX7_part_0 1 rfl rfl)
theorem dX7_part_2 : decode cX7_part 2 = .ok (.bipush 109, 2) := dk_16 109 (dk_at dksX7_part_0 2 rfl rfl)
theorem dX7_part_4 : decode cX7_part 4 = .ok (.if_icmp .eq 45, 3) := dk_159 0 45 (dk_at dksX7_part_0 4 rfl rfl)
theorem dX7_part_7 : decode cX7_part 7 = .ok (.iload_n 1, 1) := dk_27 (dk_at dksX7_part_0 7 rfl rfl)
theorem dX7_part_8 : decode cX7_part 8 = .ok (.bipush 117, 2) := dk_16 117 (dk_at dksX7_part_0 8 rfl rfl)
theorem dX7_part_10 : decode cX7_part 10 = .ok (.if_icmp .eq 39, 3) := dk_159 0 39 (dk_at dksX7_part_0 10 rfl rfl)
theorem dX7_part_13 : decode cX7_part 13 = .ok (.iload_n 1, 1) := dk_27 (dk_at dksX7_part_0 13 rfl rfl)
theorem dX7_part_14 : decode cX7_part 14 = .ok (.bipush 115, 2) := dk_16 115 (dk_at dksX7_part_0 14 rfl rfl)
theorem dX7_part_16 : decode cX7_part 16 = .ok (.if_icmp .eq 33, 3) := dk_159 0 33 (dk_at dksX7_part_0 16 rfl rfl)
theorem dX7_part_19 : decode cX7_part 19 = .ok (.iload_n 1, 1) := dk_27 (dk_at dksX7_part_0 19 rfl rfl)
theorem dX7_part_20 : decode cX7_part 20 = .ok (.bipush 119, 2) := dk_16 119 (dk_at dksX7_part_0 20 rfl rfl)
theorem dX7_part_22 : decode cX7_part 22 = .ok (.if_icmp .eq 27, 3) := dk_159 0 27 (dk_at dksX7_part_1 0 rfl rfl)
theorem dX7_part_25 : decode cX7_part 25 = .ok (.iload_n 1, 1) := dk_27 (dk_at dksX7_part_1 3 rfl rfl)
theorem dX7_part_26 : decode cX7_part 26 = .ok (.bipush 114, 2) := dk_16 114 (dk_at dksX7_part_1 4 rfl rfl)
theorem dX7_part_28 : decode cX7_part 28 = .ok (.if_icmp .eq 21, 3) := dk_159 0 21 (dk_at dksX7_part_1 6 rfl rfl)
theorem dX7_part_31 : decode cX7_part 31 = .ok (.iload_n 1, 1) := dk_27 (dk_at dksX7_part_1 9 rfl rfl)
theorem dX7_part_32 : decode cX7_part 32 = .ok (.bipush 118, 2) := dk_16 118 (dk_at dksX7_part_1 10 rfl rfl)
theorem dX7_part_34 : decode cX7_part 34 = .ok (.if_icmp .eq 15, 3) := dk_159 0 15 (dk_at dksX7_part_1 12 rfl rfl)
theorem dX7_part_37 : decode cX7_part 37 = .ok (.iload_n 1, 1) := dk_27 (dk_at dksX7_part_1 15 rfl rfl)
theorem dX7_part_38 : decode cX7_part 38 = .ok (.bipush 99, 2) := dk_16 99 (dk_at dksX7_part_1 16 rfl rfl)
theorem dX7_part_40 : decode cX7_part 40 = .ok (.if_icmp .eq 9, 3) := dk_159 0 9 (dk_at dksX7_part_1 18 rfl rfl)
theorem dX7_part_43 : decode cX7_part 43 = .ok (.iload_n 1, 1) := dk_27 (dk_at dksX7_part_1 21 rfl rfl)
theorem dX7_part_44 : decode cX7_part 44 = .ok (.bipush 102, 2) := dk_16 102 (dk_at dksX7_part_1 22 rfl rfl)
theorem dX7_part_46 : decode cX7_part 46 = .ok (.if_icmp .ne 7, 3) := dk_160 0 7 (dk_at dksX7_part_2 0 rfl rfl)
theorem dX7_part_49 : decode cX7_part 49 = .ok (.iconst 1, 1) := dk_4 (dk_at dksX7_part_2 3 rfl rfl)
theorem dX7_part_50 : decode cX7_part 50 = .ok (.goto 4, 3) := dk_167 0 4 (dk_at dksX7_part_2 4 rfl rfl)
theorem dX7_part_53 : decode cX7_part 53 = .ok (.iconst 0, 1) := dk_3 (dk_at dksX7_part_2 7 rfl rfl)
theorem dX7_part_54 : decode cX7_part 54 = .ok (.putfield 181, 3) := dk_181 0 181 (dk_at dksX7_part_2 8 rfl rfl)
theorem dX7_part_57 : decode cX7_part 57 = .ok (.aload_n 0, 1) := dk_42 (dk_at dksX7_part_2 11 rfl rfl)
theorem dX7_part_58 : decode cX7_part 58 = .ok (.dup, 1) := dk_89 (dk_at dksX7_part_2 12 rfl rfl)
theorem dX7_part_59 : decode cX7_part 59 = .ok (.getfield 174, 3) := dk_180 0 174 (dk_at dksX7_part_2 13 rfl rfl)
theorem dX7_part_62 : decode cX7_part 62 = .ok (.aload_n 0, 1) := dk_42 (dk_at dksX7_part_2 16 rfl rfl)
theorem dX7_part_63 : decode cX7_part 63 = .ok (.getfield 181, 3) := dk_180 0 181 (dk_at dksX7_part_2 17 rfl rfl)
theorem dX7_part_66 : decode cX7_part 66 = .ok (.ifCond .eq 7, 3) := dk_153 0 7 (dk_at dksX7_part_2 20 rfl rfl)
theorem dX7_part_69 : decode cX7_part 69 = .ok (.iconst 1, 1) := dk_4 (dk_at dksX7_part_2 23 rfl rfl)
theorem dX7_part_70 : decode cX7_part 70 = .ok (.goto 4, 3) := dk_167 0 4 (dk_at dksX7_part_3 0 rfl rfl)
theorem dX7_part_73 : decode cX7_part 73 = .ok (.iconst 0, 1) := dk_3 (dk_at dksX7_part_3 3 rfl rfl)
theorem dX7_part_74 : decode cX7_part 74 = .ok (.iadd, 1) := dk_96 (dk_at dksX7_part_3 4 rfl rfl)
theorem dX7_part_75 : decode cX7_part 75 = .ok (.putfield 174, 3) := dk_181 0 174 (dk_at dksX7_part_3 5 rfl rfl)
theorem dX7_part_78 : decode cX7_part 78 = .ok (.aload_n 0, 1) := dk_42 (dk_at dksX7_part_3 8 rfl rfl)
theorem dX7_part_79 : decode cX7_part 79 = .ok (.iload_n 1, 1) := dk_27 (dk_at dksX7_part_3 9 rfl rfl)
theorem dX7_part_80 : decode cX7_part 80 = .ok (.putfield 188, 3) := dk_181 0 188 (dk_at dksX7_part_3 10 rfl rfl)
theorem dX7_part_83 : decode cX7_part 83 = .ok (.aload_n 0, 1) := dk_42 (dk_at dksX7_part_3 13 rfl rfl)
theorem dX7_part_84 : decode cX7_part 84 = .ok (.aload_n 0, 1) := dk_42 (dk_at dksX7_part_3 14 rfl rfl)
theorem dX7_part_85 : decode cX7_part 85 = .ok (.bipush 48, 2) := dk_16 48 (dk_at dksX7_part_3 15 rfl rfl)
theorem dX7_part_87 : decode cX7_part 87 = .ok (.iload_n 1, 1) := dk_27 (dk_at dksX7_part_3 17 rfl rfl)
theorem dX7_part_88 : decode cX7_part 88 = .ok (.bipush 99, 2) := dk_16 99 (dk_at dksX7_part_3 18 rfl rfl)
theorem dX7_part_90 : decode cX7_part 90 = .ok (.if_icmp .ne 8, 3) := dk_160 0 8 (dk_at dksX7_part_3 20 rfl rfl)
theorem dX7_part_93 : decode cX7_part 93 = .ok (.bipush 53, 2) := dk_16 53 (dk_at dksX7_part_4 0 rfl rfl)
theorem dX7_part_95 : decode cX7_part 95 = .ok (.goto 5, 3) := dk_167 0 5 (dk_at dksX7_part_4 2 rfl rfl)
theorem dX7_part_98 : decode cX7_part 98 = .ok (.bipush 51, 2) := dk_16 51 (dk_at dksX7_part_4 5 rfl rfl)
theorem dX7_part_100 : decode cX7_part 100 = .ok (.invokevirtual 185, 3) := dk_182 0 185 (dk_at dksX7_part_4 7 rfl rfl)
theorem dX7_part_103 : decode cX7_part 103 = .ok (.bipush 48, 2) := dk_16 48 (dk_at dksX7_part_4 10 rfl rfl)
theorem dX7_part_105 : decode cX7_part 105 = .ok (.isub, 1) := dk_100 (dk_at dksX7_part_4 12 rfl rfl)
theorem dX7_part_106 : decode cX7_part 106 = .ok (.putfield 191, 3) := dk_181 0 191 (dk_at dksX7_part_4 13 rfl rfl)
theorem dX7_part_109 : decode cX7_part 109 = .ok (.aload_n 0, 1) := dk_42 (dk_at dksX7_part_4 16 rfl rfl)
theorem dX7_part_110 : decode cX7_part 110 = .ok (.iconst 0, 1) := dk_3 (dk_at dksX7_part_4 17 rfl rfl)
theorem dX7_part_111 : decode cX7_part 111 = .ok (.putfield 194, 3) := dk_181 0 194 (dk_at dksX7_part_4 18 rfl rfl)
theorem dX7_part_114 : decode cX7_part 114 = .ok (.aload_n 0, 1) := dk_42 (dk_at dksX7_part_4 21 rfl rfl)
theorem dX7_part_115 : decode cX7_part 115 = .ok (.iconst 0, 1) := dk_3 (dk_at dksX7_part_4 22 rfl rfl)
theorem dX7_part_116 : decode cX7_part 116 = .ok (.putfield 197, 3) := dk_181 0 197 (dk_at dksX7_part_5 0 rfl rfl)
theorem dX7_part_119 : decode cX7_part 119 = .ok (.iload_n 1, 1) := dk_27 (dk_at dksX7_part_5 3 rfl rfl)
theorem dX7_part_120 : decode cX7_part 120 = .ok (.bipush 109, 2) := dk_16 109 (dk_at dksX7_part_5 4 rfl rfl)
theorem dX7_part_122 : decode cX7_part 122 = .ok (.if_icmp .ne 30, 3) := dk_160 0 30 (dk_at dksX7_part_5 6 rfl rfl)
theorem dX7_part_125 : decode cX7_part 125 = .ok (.aload_n 0, 1) := dk_42 (dk_at dksX7_part_5 9 rfl rfl)
theorem dX7_part_126 : decode cX7_part 126 = .ok (.bipush 61, 2) := dk_16 61 (dk_at dksX7_part_5 10 rfl rfl)
theorem dX7_part_128 : decode cX7_part 128 = .ok (.bipush 61, 2) := dk_16 61 (dk_at dksX7_part_5 12 rfl rfl)
theorem dX7_part_130 : decode cX7_part 130 = .ok (.invokevirtual 185, 3) := dk_182 0 185 (dk_at dksX7_part_5 14 rfl rfl)
theorem dX7_part_133 : decode cX7_part 133 = .ok (.istore_n 2, 1) := dk_61 (dk_at dksX7_part_5 17 rfl rfl)
theorem dX7_part_134 : decode cX7_part 134 = .ok (.aload_n 0, 1) := dk_42 (dk_at dksX7_part_5 18 rfl rfl)
theorem dX7_part_135 : decode cX7_part 135 = .ok (.aload_n 0, 1) := dk_42 (dk_at dksX7_part_5 19 rfl rfl)
theorem dX7_part_136 : decode cX7_part 136 = .ok (.bipush 48, 2) := dk_16 48 (dk_at dksX7_part_5 20 rfl rfl)
theorem dX7_part_138 : decode cX7_part 138 = .ok (.bipush 53, 2) := dk_16 53 (dk_at dksX7_part_5 22 rfl rfl)
theorem dX7_part_140 : decode cX7_part 140 = .ok (.invokevirtual 185, 3) := dk_182 0 185 (dk_at dksX7_part_6 0 rfl rfl)
theorem dX7_part_143 : decode cX7_part 143 = .ok (.bipush 48, 2) := dk_16 48 (dk_at dksX7_part_6 3 rfl rfl)
theorem dX7_part_145 : decode cX7_part 145 = .ok (.isub, 1) := dk_100 (dk_at dksX7_part_6 5 rfl rfl)
theorem dX7_part_146 : decode cX7_part 146 = .ok (.putfield 194, 3) := dk_181 0 194 (dk_at dksX7_part_6 6 rfl rfl)
theorem dX7_part_149 : decode cX7_part 149 = .ok (.goto 172, 3) := dk_167 0 172 (dk_at dksX7_part_6 9 rfl rfl)
theorem dX7_part_152 : decode cX7_part 152 = .ok (.iload_n 1, 1) := dk_27 (dk_at dksX7_part_6 12 rfl rfl)
theorem dX7_part_153 : decode cX7_part 153 = .ok (.bipush 115, 2) := dk_16 115 (dk_at dksX7_part_6 13 rfl rfl)
theorem dX7_part_155 : decode cX7_part 155 = .ok (.if_icmp .ne 25, 3) := dk_160 0 25 (dk_at dksX7_part_6 15 rfl rfl)
theorem dX7_part_158 : decode cX7_part 158 = .ok (.aload_n 0, 1) := dk_42 (dk_at dksX7_part_6 18 rfl rfl)
theorem dX7_part_159 : decode cX7_part 159 = .ok (.bipush 58, 2) := dk_16 58 (dk_at dksX7_part_6 19 rfl rfl)
theorem dX7_part_161 : decode cX7_part 161 = .ok (.bipush 58, 2) := dk_16 58 (dk_at dksX7_part_6 21 rfl rfl)
theorem dX7_part_163 : decode cX7_part 163 = .ok (.invokevirtual 185, 3) := dk_182 0 185 (dk_at dksX7_part_7 0 rfl rfl)
theorem dX7_part_166 : decode cX7_part 166 = .ok (.istore_n 2, 1) := dk_61 (dk_at dksX7_part_7 3 rfl rfl)
theorem dX7_part_167 : decode cX7_part 167 = .ok (.aload_n 0, 1) := dk_42 (dk_at dksX7_part_7 4 rfl rfl)
theorem dX7_part_168 : decode cX7_part 168 = .ok (.aload_n 0, 1) := dk_42 (dk_at dksX7_part_7 5 rfl rfl)
theorem dX7_part_169 : decode cX7_part 169 = .ok (.bipush 39, 2) := dk_16 39 (dk_at dksX7_part_7 6 rfl rfl)
theorem dX7_part_171 : decode cX7_part 171 = .ok (.invokevirtual 200, 3) := dk_182 0 200 (dk_at dksX7_part_7 8 rfl rfl)
theorem dX7_part_174 : decode cX7_part 174 = .ok (.putfield 194, 3) := dk_181 0 194 (dk_at dksX7_part_7 11 rfl rfl)
theorem dX7_part_177 : decode cX7_part 177 = .ok (.goto 144, 3) := dk_167 0 144 (dk_at dksX7_part_7 14 rfl rfl)
theorem dX7_part_180 : decode cX7_part 180 = .ok (.iload_n 1, 1) := dk_27 (dk_at dksX7_part_7 17 rfl rfl)
theorem dX7_part_181 : decode cX7_part 181 = .ok (.bipush 119, 2) := dk_16 119 (dk_at dksX7_part_7 18 rfl rfl)
theorem dX7_part_183 : decode cX7_part 183 = .ok (.if_icmp .eq 15, 3) := dk_159 0 15 (dk_at dksX7_part_7 20 rfl rfl)
theorem dX7_part_186 : decode cX7_part 186 = .ok (.iload_n 1, 1) := dk_27 (dk_at dksX7_part_7 23 rfl rfl)
theorem dX7_part_187 : decode cX7_part 187 = .ok (.bipush 114, 2) := dk_16 114 (dk_at dksX7_part_8 0 rfl rfl)
theorem dX7_part_189 : decode cX7_part 189 = .ok (.if_icmp .eq 9, 3) := dk_159 0 9 (dk_at dksX7_part_8 2 rfl rfl)
theorem dX7_part_192 : decode cX7_part 192 = .ok (.iload_n 1, 1) := dk_27 (dk_at dksX7_part_8 5 rfl rfl)
theorem dX7_part_193 : decode cX7_part 193 = .ok (.bipush 102, 2) := dk_16 102 (dk_at dksX7_part_8 6 rfl rfl)
theorem dX7_part_195 : decode cX7_part 195 = .ok (.if_icmp .ne 67, 3) := dk_160 0 67 (dk_at dksX7_part_8 8 rfl rfl)
theorem dX7_part_198 : decode cX7_part 198 = .ok (.aload_n 0, 1) := dk_42 (dk_at dksX7_part_8 11 rfl rfl)
theorem dX7_part_199 : decode cX7_part 199 = .ok (.bipush 46, 2) := dk_16 46 (dk_at dksX7_part_8 12 rfl rfl)
theorem dX7_part_201 : decode cX7_part 201 = .ok (.bipush 46, 2) := dk_16 46 (dk_at dksX7_part_8 14 rfl rfl)
theorem dX7_part_203 : decode cX7_part 203 = .ok (.invokevirtual 185, 3) := dk_182 0 185 (dk_at dksX7_part_8 16 rfl rfl)
theorem dX7_part_206 : decode cX7_part 206 = .ok (.istore_n 2, 1) := dk_61 (dk_at dksX7_part_8 19 rfl rfl)
theorem dX7_part_207 : decode cX7_part 207 = .ok (.aload_n 0, 1) := dk_42 (dk_at dksX7_part_8 20 rfl rfl)
theorem dX7_part_208 : decode cX7_part 208 = .ok (.aload_n 0, 1) := dk_42 (dk_at dksX7_part_8 21 rfl rfl)
theorem dX7_part_209 : decode cX7_part 209 = .ok (.bipush 48, 2) := dk_16 48 (dk_at dksX7_part_8 22 rfl rfl)
theorem dX7_part_211 : decode cX7_part 211 = .ok (.iload_n 1, 1) := dk_27 (dk_at dksX7_part_9 0 rfl rfl)
theorem dX7_part_212 : decode cX7_part 212 = .ok (.bipush 102, 2) := dk_16 102 (dk_at dksX7_part_9 1 rfl rfl)
theorem dX7_part_214 : decode cX7_part 214 = .ok (.if_icmp .ne 8, 3) := dk_160 0 8 (dk_at dksX7_part_9 3 rfl rfl)
theorem dX7_part_217 : decode cX7_part 217 = .ok (.bipush 51, 2) := dk_16 51 (dk_at dksX7_part_9 6 rfl rfl)
theorem dX7_part_219 : decode cX7_part 219 = .ok (.goto 5, 3) := dk_167 0 5 (dk_at dksX7_part_9 8 rfl rfl)
theorem dX7_part_222 : decode cX7_part 222 = .ok (.bipush 50, 2) := dk_16 50 (dk_at dksX7_part_9 11 rfl rfl)
theorem dX7_part_224 : decode cX7_part 224 = .ok (.invokevirtual 185, 3) := dk_182 0 185 (dk_at dksX7_part_9 13 rfl rfl)
theorem dX7_part_227 : decode cX7_part 227 = .ok (.bipush 48, 2) := dk_16 48 (dk_at dksX7_part_9 16 rfl rfl)
theorem dX7_part_229 : decode cX7_part 229 = .ok (.isub, 1) := dk_100 (dk_at dksX7_part_9 18 rfl rfl)
theorem dX7_part_230 : decode cX7_part 230 = .ok (.putfield 194, 3) := dk_181 0 194 (dk_at dksX7_part_9 19 rfl rfl)
theorem dX7_part_233 : decode cX7_part 233 = .ok (.iload_n 1, 1) := dk_27 (dk_at dksX7_part_9 22 rfl rfl)
theorem dX7_part_234 : decode cX7_part 234 = .ok (.bipush 119, 2) := dk_16 119 (dk_at dksX7_part_10 0 rfl rfl)
theorem dX7_part_236 : decode cX7_part 236 = .ok (.if_icmp .ne 23, 3) := dk_160 0 23 (dk_at dksX7_part_10 2 rfl rfl)
theorem dX7_part_239 : decode cX7_part 239 = .ok (.aload_n 0, 1) := dk_42 (dk_at dksX7_part_10 5 rfl rfl)
theorem dX7_part_240 : decode cX7_part 240 = .ok (.bipush 61, 2) := dk_16 61 (dk_at dksX7_part_10 6 rfl rfl)
theorem dX7_part_242 : decode cX7_part 242 = .ok (.bipush 61, 2) := dk_16 61 (dk_at dksX7_part_10 8 rfl rfl)
theorem dX7_part_244 : decode cX7_part 244 = .ok (.invokevirtual 185, 3) := dk_182 0 185 (dk_at dksX7_part_10 10 rfl rfl)
theorem dX7_part_247 : decode cX7_part 247 = .ok (.istore_n 2, 1) := dk_61 (dk_at dksX7_part_10 13 rfl rfl)
theorem dX7_part_248 : decode cX7_part 248 = .ok (.aload_n 0, 1) := dk_42 (dk_at dksX7_part_10 14 rfl rfl)
theorem dX7_part_249 : decode cX7_part 249 = .ok (.aload_n 0, 1) := dk_42 (dk_at dksX7_part_10 15 rfl rfl)
theorem dX7_part_250 : decode cX7_part 250 = .ok (.sipush 999, 3) := dk_17 3 231 (dk_at dksX7_part_10 16 rfl rfl)
theorem dX7_part_253 : decode cX7_part 253 = .ok (.invokevirtual 200, 3) := dk_182 0 200 (dk_at dksX7_part_10 19 rfl rfl)
theorem dX7_part_256 : decode cX7_part 256 = .ok (.putfield 197, 3) := dk_181 0 197 (dk_at dksX7_part_11 0 rfl rfl)
theorem dX7_part_259 : decode cX7_part 259 = .ok (.goto 62, 3) := dk_167 0 62 (dk_at dksX7_part_11 3 rfl rfl)
theorem dX7_part_262 : decode cX7_part 262 = .ok (.iload_n 1, 1) := dk_27 (dk_at dksX7_part_11 6 rfl rfl)
theorem dX7_part_263 : decode cX7_part 263 = .ok (.bipush 118, 2) := dk_16 118 (dk_at dksX7_part_11 7 rfl rfl)
theorem dX7_part_265 : decode cX7_part 265 = .ok (.if_icmp .ne 56, 3) := dk_160 0 56 (dk_at dksX7_part_11 9 rfl rfl)
theorem dX7_part_268 : decode cX7_part 268 = .ok (.aload_n 0, 1) := dk_42 (dk_at dksX7_part_11 12 rfl rfl)
theorem dX7_part_269 : decode cX7_part 269 = .ok (.aload_n 0, 1) := dk_42 (dk_at dksX7_part_11 13 rfl rfl)
theorem dX7_part_270 : decode cX7_part 270 = .ok (.invokevirtual 177, 3) := dk_182 0 177 (dk_at dksX7_part_11 14 rfl rfl)
theorem dX7_part_273 : decode cX7_part 273 = .ok (.bipush 43, 2) := dk_16 43 (dk_at dksX7_part_11 17 rfl rfl)
theorem dX7_part_275 : decode cX7_part 275 = .ok (.if_icmp .ne 7, 3) := dk_160 0 7 (dk_at dksX7_part_11 19 rfl rfl)
theorem dX7_part_278 : decode cX7_part 278 = .ok (.iconst 1, 1) := dk_4 (dk_at dksX7_part_11 22 rfl rfl)
theorem dX7_part_279 : decode cX7_part 279 = .ok (.goto 4, 3) := dk_167 0 4 (dk_at dksX7_part_12 0 rfl rfl)
theorem dX7_part_282 : decode cX7_part 282 = .ok (.iconst 0, 1) := dk_3 (dk_at dksX7_part_12 3 rfl rfl)
theorem dX7_part_283 : decode cX7_part 283 = .ok (.putfield 194, 3) := dk_181 0 194 (dk_at dksX7_part_12 4 rfl rfl)
theorem dX7_part_286 : decode cX7_part 286 = .ok (.aload_n 0, 1) := dk_42 (dk_at dksX7_part_12 7 rfl rfl)
theorem dX7_part_287 : decode cX7_part 287 = .ok (.aload_n 0, 1) := dk_42 (dk_at dksX7_part_12 8 rfl rfl)
theorem dX7_part_288 : decode cX7_part 288 = .ok (.getfield 194, 3) := dk_180 0 194 (dk_at dksX7_part_12 9 rfl rfl)
theorem dX7_part_291 : decode cX7_part 291 = .ok (.iconst 1, 1) := dk_4 (dk_at dksX7_part_12 12 rfl rfl)
theorem dX7_part_292 : decode cX7_part 292 = .ok (.if_icmp .ne 8, 3) := dk_160 0 8 (dk_at dksX7_part_12 13 rfl rfl)
theorem dX7_part_295 : decode cX7_part 295 = .ok (.bipush 43, 2) := dk_16 43 (dk_at dksX7_part_12 16 rfl rfl)
theorem dX7_part_297 : decode cX7_part 297 = .ok (.goto 5, 3) := dk_167 0 5 (dk_at dksX7_part_12 18 rfl rfl)
theorem dX7_part_300 : decode cX7_part 300 = .ok (.bipush 45, 2) := dk_16 45 (dk_at dksX7_part_12 21 rfl rfl)
theorem dX7_part_302 : decode cX7_part 302 = .ok (.aload_n 0, 1) := dk_42 (dk_at dksX7_part_12 23 rfl rfl)
theorem dX7_part_303 : decode cX7_part 303 = .ok (.getfield 194, 3) := dk_180 0 194 (dk_at dksX7_part_13 0 rfl rfl)
theorem dX7_part_306 : decode cX7_part 306 = .ok (.iconst 1, 1) := dk_4 (dk_at dksX7_part_13 3 rfl rfl)
theorem dX7_part_307 : decode cX7_part 307 = .ok (.if_icmp .ne 8, 3) := dk_160 0 8 (dk_at dksX7_part_13 4 rfl rfl)
theorem dX7_part_310 : decode cX7_part 310 = .ok (.bipush 43, 2) := dk_16 43 (dk_at dksX7_part_13 7 rfl rfl)
theorem dX7_part_312 : decode cX7_part 312 = .ok (.goto 5, 3) := dk_167 0 5 (dk_at dksX7_part_13 9 rfl rfl)
theorem dX7_part_315 : decode cX7_part 315 = .ok (.bipush 45, 2) := dk_16 45 (dk_at dksX7_part_13 12 rfl rfl)
theorem dX7_part_317 : decode cX7_part 317 = .ok (.invokevirtual 185, 3) := dk_182 0 185 (dk_at dksX7_part_13 14 rfl rfl)
theorem dX7_part_320 : decode cX7_part 320 = .ok (.istore_n 2, 1) := dk_61 (dk_at dksX7_part_13 17 rfl rfl)
theorem dX7_part_321 : decode cX7_part 321 = .ok (.return_, 1) := dk_177 (dk_at dksX7_part_13 18 rfl rfl)
abbrev cX7_needs : ByteArray := prog_13_method_85_code
def yX7_needs : MethodName := ⟨RX7, "needs", "(II)I"⟩
def dkwX7_needs_2 : List UInt8 := [96, 181, 0, 174, 29, 172]
abbrev dktX7_needs_2 : List UInt8 := dkwX7_needs_2 ++ []
def dkwX7_needs_1 : List UInt8 := [167, 0, 4, 3, 181, 0, 181, 42, 89, 180, 0, 174, 42, 180, 0, 181, 153, 0, 7, 4, 167, 0, 4, 3]
abbrev dktX7_needs_1 : List UInt8 := dkwX7_needs_1 ++ dktX7_needs_2
def dkwX7_needs_0 : List UInt8 := [42, 182, 0, 177, 62, 42, 42, 180, 0, 181, 153, 0, 16, 29, 27, 28, 184, 0, 36, 153, 0, 7, 4]
abbrev dktX7_needs_0 : List UInt8 := dkwX7_needs_0 ++ dktX7_needs_1
theorem dksX7_needs_0 : cX7_needs.data.toList.drop 0 = dktX7_needs_0 := by decide +kernel
theorem dksX7_needs_1 : cX7_needs.data.toList.drop 23 = dktX7_needs_1 := dk_seg dksX7_needs_0 23 rfl rfl
theorem dksX7_needs_2 : cX7_needs.data.toList.drop 47 = dktX7_needs_2 := dk_seg dksX7_needs_1 24 rfl rfl
theorem dX7_needs_0 : decode cX7_needs 0 = .ok (.aload_n 0, 1) := dk_42 (dk_at dksX7_needs_0 0 rfl rfl)
theorem dX7_needs_1 : decode cX7_needs 1 = .ok (.invokevirtual 177, 3) := dk_182 0 177 (dk_at dksX7_needs_0 1 rfl rfl)
theorem dX7_needs_4 : decode cX7_needs 4 = .ok (.istore_n 3, 1) := dk_62 (dk_at dksX7_needs_0 4 rfl rfl)
theorem dX7_needs_5 : decode cX7_needs 5 = .ok (.aload_n 0, 1) := dk_42 (dk_at dksX7_needs_0 5 rfl rfl)
theorem dX7_needs_6 : decode cX7_needs 6 = .ok (.aload_n 0, 1) := dk_42 (dk_at dksX7_needs_0 6 rfl rfl)
theorem dX7_needs_7 : decode cX7_needs 7 = .ok (.getfield 181, 3) := dk_180 0 181 (dk_at dksX7_needs_0 7 rfl rfl)
theorem dX7_needs_10 : decode cX7_needs 10 = .ok (.ifCond .eq 16, 3) := dk_153 0 16 (dk_at dksX7_needs_0 10 rfl rfl)
theorem dX7_needs_13 : decode cX7_needs 13 = .ok (.iload_n 3, 1) := dk_29 (dk_at dksX7_needs_0 13 rfl rfl)
theorem dX7_needs_14 : decode cX7_needs 14 = .ok (.iload_n 1, 1) := dk_27 (dk_at dksX7_needs_0 14 rfl rfl)
theorem dX7_needs_15 : decode cX7_needs 15 = .ok (.iload_n 2, 1) := dk_28 (dk_at dksX7_needs_0 15 rfl rfl)
theorem dX7_needs_16 : decode cX7_needs 16 = .ok (.invokestatic 36, 3) := dk_184 0 36 (dk_at dksX7_needs_0 16 rfl rfl)
theorem dX7_needs_19 : decode cX7_needs 19 = .ok (.ifCond .eq 7, 3) := dk_153 0 7 (dk_at dksX7_needs_0 19 rfl rfl)
theorem dX7_needs_22 : decode cX7_needs 22 = .ok (.iconst 1, 1) := dk_4 (dk_at dksX7_needs_0 22 rfl rfl)
theorem dX7_needs_23 : decode cX7_needs 23 = .ok (.goto 4, 3) := dk_167 0 4 (dk_at dksX7_needs_1 0 rfl rfl)
theorem dX7_needs_26 : decode cX7_needs 26 = .ok (.iconst 0, 1) := dk_3 (dk_at dksX7_needs_1 3 rfl rfl)
theorem dX7_needs_27 : decode cX7_needs 27 = .ok (.putfield 181, 3) := dk_181 0 181 (dk_at dksX7_needs_1 4 rfl rfl)
theorem dX7_needs_30 : decode cX7_needs 30 = .ok (.aload_n 0, 1) := dk_42 (dk_at dksX7_needs_1 7 rfl rfl)
theorem dX7_needs_31 : decode cX7_needs 31 = .ok (.dup, 1) := dk_89 (dk_at dksX7_needs_1 8 rfl rfl)
theorem dX7_needs_32 : decode cX7_needs 32 = .ok (.getfield 174, 3) := dk_180 0 174 (dk_at dksX7_needs_1 9 rfl rfl)
theorem dX7_needs_35 : decode cX7_needs 35 = .ok (.aload_n 0, 1) := dk_42 (dk_at dksX7_needs_1 12 rfl rfl)
theorem dX7_needs_36 : decode cX7_needs 36 = .ok (.getfield 181, 3) := dk_180 0 181 (dk_at dksX7_needs_1 13 rfl rfl)
theorem dX7_needs_39 : decode cX7_needs 39 = .ok (.ifCond .eq 7, 3) := dk_153 0 7 (dk_at dksX7_needs_1 16 rfl rfl)
theorem dX7_needs_42 : decode cX7_needs 42 = .ok (.iconst 1, 1) := dk_4 (dk_at dksX7_needs_1 19 rfl rfl)
theorem dX7_needs_43 : decode cX7_needs 43 = .ok (.goto 4, 3) := dk_167 0 4 (dk_at dksX7_needs_1 20 rfl rfl)
theorem dX7_needs_46 : decode cX7_needs 46 = .ok (.iconst 0, 1) := dk_3 (dk_at dksX7_needs_1 23 rfl rfl)
theorem dX7_needs_47 : decode cX7_needs 47 = .ok (.iadd, 1) := dk_96 (dk_at dksX7_needs_2 0 rfl rfl)
theorem dX7_needs_48 : decode cX7_needs 48 = .ok (.putfield 174, 3) := dk_181 0 174 (dk_at dksX7_needs_2 1 rfl rfl)
theorem dX7_needs_51 : decode cX7_needs 51 = .ok (.iload_n 3, 1) := dk_29 (dk_at dksX7_needs_2 4 rfl rfl)
theorem dX7_needs_52 : decode cX7_needs 52 = .ok (.ireturn, 1) := dk_172 (dk_at dksX7_needs_2 5 rfl rfl)
abbrev cX7_number : ByteArray := prog_13_method_86_code
def yX7_number : MethodName := ⟨RX7, "number", "(I)I"⟩
def dkwX7_number_4 : List UInt8 := [180, 0, 174, 29, 153, 0, 7, 4, 167, 0, 4, 3, 96, 181, 0, 174, 167, 255, 177, 28, 172]
abbrev dktX7_number_4 : List UInt8 := dkwX7_number_4 ++ []
def dkwX7_number_3 : List UInt8 := [163, 0, 7, 4, 167, 0, 4, 3, 62, 29, 153, 0, 8, 21, 4, 167, 0, 4, 28, 61, 42, 89]
abbrev dktX7_number_3 : List UInt8 := dkwX7_number_3 ++ dktX7_number_4
def dkwX7_number_2 : List UInt8 := [16, 10, 28, 104, 42, 182, 0, 177, 96, 16, 48, 100, 167, 0, 6, 27, 4, 96, 54, 4, 21, 4, 27]
abbrev dktX7_number_2 : List UInt8 := dkwX7_number_2 ++ dktX7_number_3
def dkwX7_number_1 : List UInt8 := [167, 0, 4, 3, 62, 29, 153, 0, 81, 42, 182, 0, 177, 16, 48, 16, 57, 184, 0, 36, 153, 0, 18]
abbrev dktX7_number_1 : List UInt8 := dkwX7_number_1 ++ dktX7_number_2
def dkwX7_number_0 : List UInt8 := [42, 16, 48, 16, 57, 182, 0, 185, 16, 48, 100, 61, 42, 180, 0, 181, 153, 0, 11, 28, 158, 0, 7, 4]
abbrev dktX7_number_0 : List UInt8 := dkwX7_number_0 ++ dktX7_number_1
theorem dksX7_number_0 : cX7_number.data.toList.drop 0 = dktX7_number_0 := by decide +kernel
theorem dksX7_number_1 : cX7_number.data.toList.drop 24 = dktX7_number_1 := dk_seg dksX7_number_0 24 rfl rfl
theorem dksX7_number_2 : cX7_number.data.toList.drop 47 = dktX7_number_2 := dk_seg dksX7_number_1 23 rfl rfl
theorem dksX7_number_3 : cX7_number.data.toList.drop 70 = dktX7_number_3 := dk_seg dksX7_number_2 23 rfl rfl
theorem dksX7_number_4 : cX7_number.data.toList.drop 92 = dktX7_number_4 := dk_seg dksX7_number_3 22 rfl rfl
theorem dX7_number_0 : decode cX7_number 0 = .ok (.aload_n 0, 1) := dk_42 (dk_at dksX7_number_0 0 rfl rfl)
theorem dX7_number_1 : decode cX7_number 1 = .ok (.bipush 48, 2) := dk_16 48 (dk_at dksX7_number_0 1 rfl rfl)
theorem dX7_number_3 : decode cX7_number 3 = .ok (.bipush 57, 2) := dk_16 57 (dk_at dksX7_number_0 3 rfl rfl)
theorem dX7_number_5 : decode cX7_number 5 = .ok (.invokevirtual 185, 3) := dk_182 0 185 (dk_at dksX7_number_0 5 rfl rfl)
theorem dX7_number_8 : decode cX7_number 8 = .ok (.bipush 48, 2) := dk_16 48 (dk_at dksX7_number_0 8 rfl rfl)
theorem dX7_number_10 : decode cX7_number 10 = .ok (.isub, 1) := dk_100 (dk_at dksX7_number_0 10 rfl rfl)
theorem dX7_number_11 : decode cX7_number 11 = .ok (.istore_n 2, 1) := dk_61 (dk_at dksX7_number_0 11 rfl rfl)
theorem dX7_number_12 : decode cX7_number 12 = .ok (.aload_n 0, 1) := dk_42 (dk_at dksX7_number_0 12 rfl rfl)
theorem dX7_number_13 : decode cX7_number 13 = .ok (.getfield 181, 3) := dk_180 0 181 (dk_at dksX7_number_0 13 rfl rfl)
theorem dX7_number_16 : decode cX7_number 16 = .ok (.ifCond .eq 11, 3) := dk_153 0 11 (dk_at dksX7_number_0 16 rfl rfl)
theorem dX7_number_19 : decode cX7_number 19 = .ok (.iload_n 2, 1) := dk_28 (dk_at dksX7_number_0 19 rfl rfl)
theorem dX7_number_20 : decode cX7_number 20 = .ok (.ifCond .le 7, 3) := dk_158 0 7 (dk_at dksX7_number_0 20 rfl rfl)
theorem dX7_number_23 : decode cX7_number 23 = .ok (.iconst 1, 1) := dk_4 (dk_at dksX7_number_0 23 rfl rfl)
theorem dX7_number_24 : decode cX7_number 24 = .ok (.goto 4, 3) := dk_167 0 4 (dk_at dksX7_number_1 0 rfl rfl)
theorem dX7_number_27 : decode cX7_number 27 = .ok (.iconst 0, 1) := dk_3 (dk_at dksX7_number_1 3 rfl rfl)
theorem dX7_number_28 : decode cX7_number 28 = .ok (.istore_n 3, 1) := dk_62 (dk_at dksX7_number_1 4 rfl rfl)
theorem dX7_number_29 : decode cX7_number 29 = .ok (.iload_n 3, 1) := dk_29 (dk_at dksX7_number_1 5 rfl rfl)
theorem dX7_number_30 : decode cX7_number 30 = .ok (.ifCond .eq 81, 3) := dk_153 0 81 (dk_at dksX7_number_1 6 rfl rfl)
theorem dX7_number_33 : decode cX7_number 33 = .ok (.aload_n 0, 1) := dk_42 (dk_at dksX7_number_1 9 rfl rfl)
theorem dX7_number_34 : decode cX7_number 34 = .ok (.invokevirtual 177, 3) := dk_182 0 177 (dk_at dksX7_number_1 10 rfl rfl)
theorem dX7_number_37 : decode cX7_number 37 = .ok (.bipush 48, 2) := dk_16 48 (dk_at dksX7_number_1 13 rfl rfl)
theorem dX7_number_39 : decode cX7_number 39 = .ok (.bipush 57, 2) := dk_16 57 (dk_at dksX7_number_1 15 rfl rfl)
theorem dX7_number_41 : decode cX7_number 41 = .ok (.invokestatic 36, 3) := dk_184 0 36 (dk_at dksX7_number_1 17 rfl rfl)
theorem dX7_number_44 : decode cX7_number 44 = .ok (.ifCond .eq 18, 3) := dk_153 0 18 (dk_at dksX7_number_1 20 rfl rfl)
theorem dX7_number_47 : decode cX7_number 47 = .ok (.bipush 10, 2) := dk_16 10 (dk_at dksX7_number_2 0 rfl rfl)
theorem dX7_number_49 : decode cX7_number 49 = .ok (.iload_n 2, 1) := dk_28 (dk_at dksX7_number_2 2 rfl rfl)
theorem dX7_number_50 : decode cX7_number 50 = .ok (.imul, 1) := dk_104 (dk_at dksX7_number_2 3 rfl rfl)
theorem dX7_number_51 : decode cX7_number 51 = .ok (.aload_n 0, 1) := dk_42 (dk_at dksX7_number_2 4 rfl rfl)
theorem dX7_number_52 : decode cX7_number 52 = .ok (.invokevirtual 177, 3) := dk_182 0 177 (dk_at dksX7_number_2 5 rfl rfl)
theorem dX7_number_55 : decode cX7_number 55 = .ok (.iadd, 1) := dk_96 (dk_at dksX7_number_2 8 rfl rfl)
theorem dX7_number_56 : decode cX7_number 56 = .ok (.bipush 48, 2) := dk_16 48 (dk_at dksX7_number_2 9 rfl rfl)
theorem dX7_number_58 : decode cX7_number 58 = .ok (.isub, 1) := dk_100 (dk_at dksX7_number_2 11 rfl rfl)
theorem dX7_number_59 : decode cX7_number 59 = .ok (.goto 6, 3) := dk_167 0 6 (dk_at dksX7_number_2 12 rfl rfl)
theorem dX7_number_62 : decode cX7_number 62 = .ok (.iload_n 1, 1) := dk_27 (dk_at dksX7_number_2 15 rfl rfl)
theorem dX7_number_63 : decode cX7_number 63 = .ok (.iconst 1, 1) := dk_4 (dk_at dksX7_number_2 16 rfl rfl)
theorem dX7_number_64 : decode cX7_number 64 = .ok (.iadd, 1) := dk_96 (dk_at dksX7_number_2 17 rfl rfl)
theorem dX7_number_65 : decode cX7_number 65 = .ok (.istore 4, 2) := dk_54 4 (dk_at dksX7_number_2 18 rfl rfl)
theorem dX7_number_67 : decode cX7_number 67 = .ok (.iload 4, 2) := dk_21 4 (dk_at dksX7_number_2 20 rfl rfl)
theorem dX7_number_69 : decode cX7_number 69 = .ok (.iload_n 1, 1) := dk_27 (dk_at dksX7_number_2 22 rfl rfl)
theorem dX7_number_70 : decode cX7_number 70 = .ok (.if_icmp .gt 7, 3) := dk_163 0 7 (dk_at dksX7_number_3 0 rfl rfl)
theorem dX7_number_73 : decode cX7_number 73 = .ok (.iconst 1, 1) := dk_4 (dk_at dksX7_number_3 3 rfl rfl)
theorem dX7_number_74 : decode cX7_number 74 = .ok (.goto 4, 3) := dk_167 0 4 (dk_at dksX7_number_3 4 rfl rfl)
theorem dX7_number_77 : decode cX7_number 77 = .ok (.iconst 0, 1) := dk_3 (dk_at dksX7_number_3 7 rfl rfl)
theorem dX7_number_78 : decode cX7_number 78 = .ok (.istore_n 3, 1) := dk_62 (dk_at dksX7_number_3 8 rfl rfl)
theorem dX7_number_79 : decode cX7_number 79 = .ok (.iload_n 3, 1) := dk_29 (dk_at dksX7_number_3 9 rfl rfl)
theorem dX7_number_80 : decode cX7_number 80 = .ok (.ifCond .eq 8, 3) := dk_153 0 8 (dk_at dksX7_number_3 10 rfl rfl)
theorem dX7_number_83 : decode cX7_number 83 = .ok (.iload 4, 2) := dk_21 4 (dk_at dksX7_number_3 13 rfl rfl)
theorem dX7_number_85 : decode cX7_number 85 = .ok (.goto 4, 3) := dk_167 0 4 (dk_at dksX7_number_3 15 rfl rfl)
theorem dX7_number_88 : decode cX7_number 88 = .ok (.iload_n 2, 1) := dk_28 (dk_at dksX7_number_3 18 rfl rfl)
theorem dX7_number_89 : decode cX7_number 89 = .ok (.istore_n 2, 1) := dk_61 (dk_at dksX7_number_3 19 rfl rfl)
theorem dX7_number_90 : decode cX7_number 90 = .ok (.aload_n 0, 1) := dk_42 (dk_at dksX7_number_3 20 rfl rfl)
theorem dX7_number_91 : decode cX7_number 91 = .ok (.dup, 1) := dk_89 (dk_at dksX7_number_3 21 rfl rfl)
theorem dX7_number_92 : decode cX7_number 92 = .ok (.getfield 174, 3) := dk_180 0 174 (dk_at dksX7_number_4 0 rfl rfl)
theorem dX7_number_95 : decode cX7_number 95 = .ok (.iload_n 3, 1) := dk_29 (dk_at dksX7_number_4 3 rfl rfl)
theorem dX7_number_96 : decode cX7_number 96 = .ok (.ifCond .eq 7, 3) := dk_153 0 7 (dk_at dksX7_number_4 4 rfl rfl)
theorem dX7_number_99 : decode cX7_number 99 = .ok (.iconst 1, 1) := dk_4 (dk_at dksX7_number_4 7 rfl rfl)
theorem dX7_number_100 : decode cX7_number 100 = .ok (.goto 4, 3) := dk_167 0 4 (dk_at dksX7_number_4 8 rfl rfl)
theorem dX7_number_103 : decode cX7_number 103 = .ok (.iconst 0, 1) := dk_3 (dk_at dksX7_number_4 11 rfl rfl)
theorem dX7_number_104 : decode cX7_number 104 = .ok (.iadd, 1) := dk_96 (dk_at dksX7_number_4 12 rfl rfl)
theorem dX7_number_105 : decode cX7_number 105 = .ok (.putfield 174, 3) := dk_181 0 174 (dk_at dksX7_number_4 13 rfl rfl)
theorem dX7_number_108 : decode cX7_number 108 = .ok (.goto (-79), 3) := dk_167 255 177 (dk_at dksX7_number_4 16 rfl rfl)
theorem dX7_number_111 : decode cX7_number 111 = .ok (.iload_n 2, 1) := dk_28 (dk_at dksX7_number_4 19 rfl rfl)
theorem dX7_number_112 : decode cX7_number 112 = .ok (.ireturn, 1) := dk_172 (dk_at dksX7_number_4 20 rfl rfl)
abbrev cX7_runText : ByteArray := prog_13_method_91_code
def yX7_runText : MethodName := ⟨RX7, "runText", "()I"⟩
def dkwX7_runText_3 : List UInt8 := [153, 0, 7, 4, 167, 0, 4, 3, 96, 60, 167, 255, 206, 27, 172]
abbrev dktX7_runText_3 : List UInt8 := dkwX7_runText_3 ++ []
def dkwX7_runText_2 : List UInt8 := [182, 0, 177, 182, 0, 203, 42, 89, 180, 0, 174, 4, 96, 181, 0, 174, 42, 182, 0, 211, 61, 27, 28]
abbrev dktX7_runText_2 : List UInt8 := dkwX7_runText_2 ++ dktX7_runText_3
def dkwX7_runText_1 : List UInt8 := [4, 61, 42, 3, 181, 0, 174, 28, 153, 0, 52, 42, 180, 0, 174, 42, 180, 0, 171, 162, 0, 41, 42, 42]
abbrev dktX7_runText_1 : List UInt8 := dkwX7_runText_1 ++ dktX7_runText_2
def dkwX7_runText_0 : List UInt8 := [42, 3, 181, 0, 32, 42, 182, 0, 207, 154, 0, 9, 42, 4, 182, 0, 78, 172, 42, 182, 0, 68, 3, 60]
abbrev dktX7_runText_0 : List UInt8 := dkwX7_runText_0 ++ dktX7_runText_1
theorem dksX7_runText_0 : cX7_runText.data.toList.drop 0 = dktX7_runText_0 := by decide +kernel
theorem dksX7_runText_1 : cX7_runText.data.toList.drop 24 = dktX7_runText_1 := dk_seg dksX7_runText_0 24 rfl rfl
theorem dksX7_runText_2 : cX7_runText.data.toList.drop 48 = dktX7_runText_2 := dk_seg dksX7_runText_1 24 rfl rfl
theorem dksX7_runText_3 : cX7_runText.data.toList.drop 71 = dktX7_runText_3 := dk_seg dksX7_runText_2 23 rfl rfl
theorem dX7_runText_0 : decode cX7_runText 0 = .ok (.aload_n 0, 1) := dk_42 (dk_at dksX7_runText_0 0 rfl rfl)
theorem dX7_runText_1 : decode cX7_runText 1 = .ok (.iconst 0, 1) := dk_3 (dk_at dksX7_runText_0 1 rfl rfl)
theorem dX7_runText_2 : decode cX7_runText 2 = .ok (.putfield 32, 3) := dk_181 0 32 (dk_at dksX7_runText_0 2 rfl rfl)
theorem dX7_runText_5 : decode cX7_runText 5 = .ok (.aload_n 0, 1) := dk_42 (dk_at dksX7_runText_0 5 rfl rfl)
theorem dX7_runText_6 : decode cX7_runText 6 = .ok (.invokevirtual 207, 3) := dk_182 0 207 (dk_at dksX7_runText_0 6 rfl rfl)
theorem dX7_runText_9 : decode cX7_runText 9 = .ok (.ifCond .ne 9, 3) := dk_154 0 9 (dk_at dksX7_runText_0 9 rfl rfl)
theorem dX7_runText_12 : decode cX7_runText 12 = .ok (.aload_n 0, 1) := dk_42 (dk_at dksX7_runText_0 12 rfl rfl)
theorem dX7_runText_13 : decode cX7_runText 13 = .ok (.iconst 1, 1) := dk_4 (dk_at dksX7_runText_0 13 rfl rfl)
theorem dX7_runText_14 : decode cX7_runText 14 = .ok (.invokevirtual 78, 3) := dk_182 0 78 (dk_at dksX7_runText_0 14 rfl rfl)
theorem dX7_runText_17 : decode cX7_runText 17 = .ok (.ireturn, 1) := dk_172 (dk_at dksX7_runText_0 17 rfl rfl)
theorem dX7_runText_18 : decode cX7_runText 18 = .ok (.aload_n 0, 1) := dk_42 (dk_at dksX7_runText_0 18 rfl rfl)
theorem dX7_runText_19 : decode cX7_runText 19 = .ok (.invokevirtual 68, 3) := dk_182 0 68 (dk_at dksX7_runText_0 19 rfl rfl)
theorem dX7_runText_22 : decode cX7_runText 22 = .ok (.iconst 0, 1) := dk_3 (dk_at dksX7_runText_0 22 rfl rfl)
theorem dX7_runText_23 : decode cX7_runText 23 = .ok (.istore_n 1, 1) := dk_60 (dk_at dksX7_runText_0 23 rfl rfl)
theorem dX7_runText_24 : decode cX7_runText 24 = .ok (.iconst 1, 1) := dk_4 (dk_at dksX7_runText_1 0 rfl rfl)
theorem dX7_runText_25 : decode cX7_runText 25 = .ok (.istore_n 2, 1) := dk_61 (dk_at dksX7_runText_1 1 rfl rfl)
theorem dX7_runText_26 : decode cX7_runText 26 = .ok (.aload_n 0, 1) := dk_42 (dk_at dksX7_runText_1 2 rfl rfl)
theorem dX7_runText_27 : decode cX7_runText 27 = .ok (.iconst 0, 1) := dk_3 (dk_at dksX7_runText_1 3 rfl rfl)
theorem dX7_runText_28 : decode cX7_runText 28 = .ok (.putfield 174, 3) := dk_181 0 174 (dk_at dksX7_runText_1 4 rfl rfl)
theorem dX7_runText_31 : decode cX7_runText 31 = .ok (.iload_n 2, 1) := dk_28 (dk_at dksX7_runText_1 7 rfl rfl)
theorem dX7_runText_32 : decode cX7_runText 32 = .ok (.ifCond .eq 52, 3) := dk_153 0 52 (dk_at dksX7_runText_1 8 rfl rfl)
theorem dX7_runText_35 : decode cX7_runText 35 = .ok (.aload_n 0, 1) := dk_42 (dk_at dksX7_runText_1 11 rfl rfl)
theorem dX7_runText_36 : decode cX7_runText 36 = .ok (.getfield 174, 3) := dk_180 0 174 (dk_at dksX7_runText_1 12 rfl rfl)
theorem dX7_runText_39 : decode cX7_runText 39 = .ok (.aload_n 0, 1) := dk_42 (dk_at dksX7_runText_1 15 rfl rfl)
theorem dX7_runText_40 : decode cX7_runText 40 = .ok (.getfield 171, 3) := dk_180 0 171 (dk_at dksX7_runText_1 16 rfl rfl)
theorem dX7_runText_43 : decode cX7_runText 43 = .ok (.if_icmp .ge 41, 3) := dk_162 0 41 (dk_at dksX7_runText_1 19 rfl rfl)
theorem dX7_runText_46 : decode cX7_runText 46 = .ok (.aload_n 0, 1) := dk_42 (dk_at dksX7_runText_1 22 rfl rfl)
theorem dX7_runText_47 : decode cX7_runText 47 = .ok (.aload_n 0, 1) := dk_42 (dk_at dksX7_runText_1 23 rfl rfl)
theorem dX7_runText_48 : decode cX7_runText 48 = .ok (.invokevirtual 177, 3) := dk_182 0 177 (dk_at dksX7_runText_2 0 rfl rfl)
theorem dX7_runText_51 : decode cX7_runText 51 = .ok (.invokevirtual 203, 3) := dk_182 0 203 (dk_at dksX7_runText_2 3 rfl rfl)
theorem dX7_runText_54 : decode cX7_runText 54 = .ok (.aload_n 0, 1) := dk_42 (dk_at dksX7_runText_2 6 rfl rfl)
theorem dX7_runText_55 : decode cX7_runText 55 = .ok (.dup, 1) := dk_89 (dk_at dksX7_runText_2 7 rfl rfl)
theorem dX7_runText_56 : decode cX7_runText 56 = .ok (.getfield 174, 3) := dk_180 0 174 (dk_at dksX7_runText_2 8 rfl rfl)
theorem dX7_runText_59 : decode cX7_runText 59 = .ok (.iconst 1, 1) := dk_4 (dk_at dksX7_runText_2 11 rfl rfl)
theorem dX7_runText_60 : decode cX7_runText 60 = .ok (.iadd, 1) := dk_96 (dk_at dksX7_runText_2 12 rfl rfl)
theorem dX7_runText_61 : decode cX7_runText 61 = .ok (.putfield 174, 3) := dk_181 0 174 (dk_at dksX7_runText_2 13 rfl rfl)
theorem dX7_runText_64 : decode cX7_runText 64 = .ok (.aload_n 0, 1) := dk_42 (dk_at dksX7_runText_2 16 rfl rfl)
theorem dX7_runText_65 : decode cX7_runText 65 = .ok (.invokevirtual 211, 3) := dk_182 0 211 (dk_at dksX7_runText_2 17 rfl rfl)
theorem dX7_runText_68 : decode cX7_runText 68 = .ok (.istore_n 2, 1) := dk_61 (dk_at dksX7_runText_2 20 rfl rfl)
theorem dX7_runText_69 : decode cX7_runText 69 = .ok (.iload_n 1, 1) := dk_27 (dk_at dksX7_runText_2 21 rfl rfl)
theorem dX7_runText_70 : decode cX7_runText 70 = .ok (.iload_n 2, 1) := dk_28 (dk_at dksX7_runText_2 22 rfl rfl)
theorem dX7_runText_71 : decode cX7_runText 71 = .ok (.ifCond .eq 7, 3) := dk_153 0 7 (dk_at dksX7_runText_3 0 rfl rfl)
theorem dX7_runText_74 : decode cX7_runText 74 = .ok (.iconst 1, 1) := dk_4 (dk_at dksX7_runText_3 3 rfl rfl)
theorem dX7_runText_75 : decode cX7_runText 75 = .ok (.goto 4, 3) := dk_167 0 4 (dk_at dksX7_runText_3 4 rfl rfl)
theorem dX7_runText_78 : decode cX7_runText 78 = .ok (.iconst 0, 1) := dk_3 (dk_at dksX7_runText_3 7 rfl rfl)
theorem dX7_runText_79 : decode cX7_runText 79 = .ok (.iadd, 1) := dk_96 (dk_at dksX7_runText_3 8 rfl rfl)
theorem dX7_runText_80 : decode cX7_runText 80 = .ok (.istore_n 1, 1) := dk_60 (dk_at dksX7_runText_3 9 rfl rfl)
theorem dX7_runText_81 : decode cX7_runText 81 = .ok (.goto (-50), 3) := dk_167 255 206 (dk_at dksX7_runText_3 10 rfl rfl)
theorem dX7_runText_84 : decode cX7_runText 84 = .ok (.iload_n 1, 1) := dk_27 (dk_at dksX7_runText_3 13 rfl rfl)
theorem dX7_runText_85 : decode cX7_runText 85 = .ok (.ireturn, 1) := dk_172 (dk_at dksX7_runText_3 14 rfl rfl)
abbrev cX7_does : ByteArray := prog_13_method_90_code
def yX7_does : MethodName := ⟨RX7, "does", "()Z"⟩
def dkwX7_does_12 : List UInt8 := [42, 180, 0, 194, 182, 0, 138, 60, 4, 172]
abbrev dktX7_does_12 : List UInt8 := dkwX7_does_12 ++ []
def dkwX7_does_11 : List UInt8 := [182, 0, 141, 158, 0, 5, 3, 172, 42, 42, 180, 0, 191, 182, 0, 144, 60, 4, 172, 42, 42, 180, 0, 191]
abbrev dktX7_does_11 : List UInt8 := dkwX7_does_11 ++ dktX7_does_12
def dkwX7_does_10 : List UInt8 := [172, 42, 180, 0, 7, 16, 56, 42, 180, 0, 191, 96, 42, 180, 0, 194, 79, 4, 172, 42, 42, 180, 0, 191]
abbrev dktX7_does_10 : List UInt8 := dkwX7_does_10 ++ dktX7_does_11
def dkwX7_does_9 : List UInt8 := [42, 180, 0, 191, 42, 180, 0, 194, 4, 160, 0, 7, 4, 167, 0, 4, 3, 182, 0, 107, 158, 0, 5, 3]
abbrev dktX7_does_9 : List UInt8 := dkwX7_does_9 ++ dktX7_does_10
def dkwX7_does_8 : List UInt8 := [182, 0, 132, 158, 0, 5, 3, 172, 42, 42, 180, 0, 191, 42, 180, 0, 194, 182, 0, 135, 60, 4, 172, 42]
abbrev dktX7_does_8 : List UInt8 := dkwX7_does_8 ++ dktX7_does_9
def dkwX7_does_7 : List UInt8 := [42, 180, 0, 194, 42, 180, 0, 197, 182, 0, 129, 60, 4, 172, 42, 42, 180, 0, 191, 42, 180, 0, 194]
abbrev dktX7_does_7 : List UInt8 := dkwX7_does_7 ++ dktX7_does_8
def dkwX7_does_6 : List UInt8 := [180, 0, 191, 42, 180, 0, 194, 42, 180, 0, 197, 182, 0, 126, 158, 0, 5, 3, 172, 42, 42, 180, 0, 191]
abbrev dktX7_does_6 : List UInt8 := dkwX7_does_6 ++ dktX7_does_7
def dkwX7_does_5 : List UInt8 := [158, 0, 5, 3, 172, 42, 42, 180, 0, 191, 42, 180, 0, 194, 182, 0, 123, 60, 4, 172, 42, 42]
abbrev dktX7_does_5 : List UInt8 := dkwX7_does_5 ++ dktX7_does_6
def dkwX7_does_4 : List UInt8 := [42, 42, 180, 0, 191, 182, 0, 117, 60, 4, 172, 42, 42, 180, 0, 191, 42, 180, 0, 194, 182, 0, 120]
abbrev dktX7_does_4 : List UInt8 := dkwX7_does_4 ++ dktX7_does_5
def dkwX7_does_3 : List UInt8 := [180, 0, 191, 96, 42, 180, 0, 194, 79, 4, 172, 42, 42, 180, 0, 191, 182, 0, 93, 158, 0, 5, 3, 172]
abbrev dktX7_does_3 : List UInt8 := dkwX7_does_3 ++ dktX7_does_4
def dkwX7_does_2 : List UInt8 := [42, 42, 180, 0, 191, 42, 180, 0, 194, 182, 0, 114, 158, 0, 5, 3, 172, 42, 180, 0, 7, 16, 60, 42]
abbrev dktX7_does_2 : List UInt8 := dkwX7_does_2 ++ dktX7_does_3
def dkwX7_does_1 : List UInt8 := [170, 0, 0, 0, 1, 73, 0, 0, 0, 99, 0, 0, 0, 119, 0, 0, 1, 49, 0, 0, 1, 73, 0, 0, 1, 73, 0, 0, 1, 73, 0, 0, 1, 73, 0, 0, 1, 73, 0, 0, 1, 73, 0, 0, 1, 73, 0, 0, 1, 73, 0, 0, 1, 73, 0, 0, 0, 98, 0, 0, 1, 73, 0, 0, 1, 73, 0, 0, 1, 73, 0, 0, 1, 73, 0, 0, 0, 229, 0, 0, 0, 157, 0, 0, 1, 73, 0, 0, 0, 133, 0, 0, 1, 5, 0, 0, 0, 189]
abbrev dktX7_does_1 : List UInt8 := dkwX7_does_1 ++ dktX7_does_2
def dkwX7_does_0 : List UInt8 := [3, 60, 42, 180, 0, 188]
abbrev dktX7_does_0 : List UInt8 := dkwX7_does_0 ++ dktX7_does_1
theorem dksX7_does_0 : cX7_does.data.toList.drop 0 = dktX7_does_0 := by decide +kernel
theorem dksX7_does_1 : cX7_does.data.toList.drop 6 = dktX7_does_1 := dk_seg dksX7_does_0 6 rfl rfl
theorem dksX7_does_2 : cX7_does.data.toList.drop 104 = dktX7_does_2 := dk_seg dksX7_does_1 98 rfl rfl
theorem dksX7_does_3 : cX7_does.data.toList.drop 128 = dktX7_does_3 := dk_seg dksX7_does_2 24 rfl rfl
theorem dksX7_does_4 : cX7_does.data.toList.drop 152 = dktX7_does_4 := dk_seg dksX7_does_3 24 rfl rfl
theorem dksX7_does_5 : cX7_does.data.toList.drop 175 = dktX7_does_5 := dk_seg dksX7_does_4 23 rfl rfl
theorem dksX7_does_6 : cX7_does.data.toList.drop 197 = dktX7_does_6 := dk_seg dksX7_does_5 22 rfl rfl
theorem dksX7_does_7 : cX7_does.data.toList.drop 221 = dktX7_does_7 := dk_seg dksX7_does_6 24 rfl rfl
theorem dksX7_does_8 : cX7_does.data.toList.drop 244 = dktX7_does_8 := dk_seg dksX7_does_7 23 rfl rfl
theorem dksX7_does_9 : cX7_does.data.toList.drop 268 = dktX7_does_9 := dk_seg dksX7_does_8 24 rfl rfl
theorem dksX7_does_10 : cX7_does.data.toList.drop 292 = dktX7_does_10 := dk_seg dksX7_does_9 24 rfl rfl
theorem dksX7_does_11 : cX7_does.data.toList.drop 316 = dktX7_does_11 := dk_seg dksX7_does_10 24 rfl rfl
theorem dksX7_does_12 : cX7_does.data.toList.drop 340 = dktX7_does_12 := dk_seg dksX7_does_11 24 rfl rfl
theorem dX7_does_0 : decode cX7_does 0 = .ok (.iconst 0, 1) := dk_3 (dk_at dksX7_does_0 0 rfl rfl)
theorem dX7_does_1 : decode cX7_does 1 = .ok (.istore_n 1, 1) := dk_60 (dk_at dksX7_does_0 1 rfl rfl)
theorem dX7_does_2 : decode cX7_does 2 = .ok (.aload_n 0, 1) := dk_42 (dk_at dksX7_does_0 2 rfl rfl)
theorem dX7_does_3 : decode cX7_does 3 = .ok (.getfield 188, 3) := dk_180 0 188 (dk_at dksX7_does_0 3 rfl rfl)
theorem dX7_does_6 : decode cX7_does 6 = .ok (.tableswitch 329 99 119 #[305, 329, 329, 329, 329, 329, 329, 329, 329, 329, 98, 329, 329, 329, 329, 229, 157, 329, 133, 261, 189], 98) := by decide +kernel
theorem dX7_does_104 : decode cX7_does 104 = .ok (.aload_n 0, 1) := dk_42 (dk_at dksX7_does_2 0 rfl rfl)
theorem dX7_does_105 : decode cX7_does 105 = .ok (.aload_n 0, 1) := dk_42 (dk_at dksX7_does_2 1 rfl rfl)
theorem dX7_does_106 : decode cX7_does 106 = .ok (.getfield 191, 3) := dk_180 0 191 (dk_at dksX7_does_2 2 rfl rfl)
theorem dX7_does_109 : decode cX7_does 109 = .ok (.aload_n 0, 1) := dk_42 (dk_at dksX7_does_2 5 rfl rfl)
theorem dX7_does_110 : decode cX7_does 110 = .ok (.getfield 194, 3) := dk_180 0 194 (dk_at dksX7_does_2 6 rfl rfl)
theorem dX7_does_113 : decode cX7_does 113 = .ok (.invokevirtual 114, 3) := dk_182 0 114 (dk_at dksX7_does_2 9 rfl rfl)
theorem dX7_does_116 : decode cX7_does 116 = .ok (.ifCond .le 5, 3) := dk_158 0 5 (dk_at dksX7_does_2 12 rfl rfl)
theorem dX7_does_119 : decode cX7_does 119 = .ok (.iconst 0, 1) := dk_3 (dk_at dksX7_does_2 15 rfl rfl)
theorem dX7_does_120 : decode cX7_does 120 = .ok (.ireturn, 1) := dk_172 (dk_at dksX7_does_2 16 rfl rfl)
theorem dX7_does_121 : decode cX7_does 121 = .ok (.aload_n 0, 1) := dk_42 (dk_at dksX7_does_2 17 rfl rfl)
theorem dX7_does_122 : decode cX7_does 122 = .ok (.getfield 7, 3) := dk_180 0 7 (dk_at dksX7_does_2 18 rfl rfl)
theorem dX7_does_125 : decode cX7_does 125 = .ok (.bipush 60, 2) := dk_16 60 (dk_at dksX7_does_2 21 rfl rfl)
theorem dX7_does_127 : decode cX7_does 127 = .ok (.aload_n 0, 1) := dk_42 (dk_at dksX7_does_2 23 rfl rfl)
theorem dX7_does_128 : decode cX7_does 128 = .ok (.getfield 191, 3) := dk_180 0 191 (dk_at dksX7_does_3 0 rfl rfl)
theorem dX7_does_131 : decode cX7_does 131 = .ok (.iadd, 1) := dk_96 (dk_at dksX7_does_3 3 rfl rfl)
theorem dX7_does_132 : decode cX7_does 132 = .ok (.aload_n 0, 1) := dk_42 (dk_at dksX7_does_3 4 rfl rfl)
theorem dX7_does_133 : decode cX7_does 133 = .ok (.getfield 194, 3) := dk_180 0 194 (dk_at dksX7_does_3 5 rfl rfl)
theorem dX7_does_136 : decode cX7_does 136 = .ok (.iastore, 1) := dk_79 (dk_at dksX7_does_3 8 rfl rfl)
theorem dX7_does_137 : decode cX7_does 137 = .ok (.iconst 1, 1) := dk_4 (dk_at dksX7_does_3 9 rfl rfl)
theorem dX7_does_138 : decode cX7_does 138 = .ok (.ireturn, 1) := dk_172 (dk_at dksX7_does_3 10 rfl rfl)
theorem dX7_does_139 : decode cX7_does 139 = .ok (.aload_n 0, 1) := dk_42 (dk_at dksX7_does_3 11 rfl rfl)
theorem dX7_does_140 : decode cX7_does 140 = .ok (.aload_n 0, 1) := dk_42 (dk_at dksX7_does_3 12 rfl rfl)
theorem dX7_does_141 : decode cX7_does 141 = .ok (.getfield 191, 3) := dk_180 0 191 (dk_at dksX7_does_3 13 rfl rfl)
theorem dX7_does_144 : decode cX7_does 144 = .ok (.invokevirtual 93, 3) := dk_182 0 93 (dk_at dksX7_does_3 16 rfl rfl)
theorem dX7_does_147 : decode cX7_does 147 = .ok (.ifCond .le 5, 3) := dk_158 0 5 (dk_at dksX7_does_3 19 rfl rfl)
theorem dX7_does_150 : decode cX7_does 150 = .ok (.iconst 0, 1) := dk_3 (dk_at dksX7_does_3 22 rfl rfl)
theorem dX7_does_151 : decode cX7_does 151 = .ok (.ireturn, 1) := dk_172 (dk_at dksX7_does_3 23 rfl rfl)
theorem dX7_does_152 : decode cX7_does 152 = .ok (.aload_n 0, 1) := dk_42 (dk_at dksX7_does_4 0 rfl rfl)
theorem dX7_does_153 : decode cX7_does 153 = .ok (.aload_n 0, 1) := dk_42 (dk_at dksX7_does_4 1 rfl rfl)
theorem dX7_does_154 : decode cX7_does 154 = .ok (.getfield 191, 3) := dk_180 0 191 (dk_at dksX7_does_4 2 rfl rfl)
theorem dX7_does_157 : decode cX7_does 157 = .ok (.invokevirtual 117, 3) := dk_182 0 117 (dk_at dksX7_does_4 5 rfl rfl)
theorem dX7_does_160 : decode cX7_does 160 = .ok (.istore_n 1, 1) := dk_60 (dk_at dksX7_does_4 8 rfl rfl)
theorem dX7_does_161 : decode cX7_does 161 = .ok (.iconst 1, 1) := dk_4 (dk_at dksX7_does_4 9 rfl rfl)
theorem dX7_does_162 : decode cX7_does 162 = .ok (.ireturn, 1) := dk_172 (dk_at dksX7_does_4 10 rfl rfl)
theorem dX7_does_163 : decode cX7_does 163 = .ok (.aload_n 0, 1) := dk_42 (dk_at dksX7_does_4 11 rfl rfl)
theorem dX7_does_164 : decode cX7_does 164 = .ok (.aload_n 0, 1) := dk_42 (dk_at dksX7_does_4 12 rfl rfl)
theorem dX7_does_165 : decode cX7_does 165 = .ok (.getfield 191, 3) := dk_180 0 191 (dk_at dksX7_does_4 13 rfl rfl)
theorem dX7_does_168 : decode cX7_does 168 = .ok (.aload_n 0, 1) := dk_42 (dk_at dksX7_does_4 16 rfl rfl)
theorem dX7_does_169 : decode cX7_does 169 = .ok (.getfield 194, 3) := dk_180 0 194 (dk_at dksX7_does_4 17 rfl rfl)
theorem dX7_does_172 : decode cX7_does 172 = .ok (.invokevirtual 120, 3) := dk_182 0 120 (dk_at dksX7_does_4 20 rfl rfl)
theorem dX7_does_175 : decode cX7_does 175 = .ok (.ifCond .le 5, 3) := dk_158 0 5 (dk_at dksX7_does_5 0 rfl rfl)
theorem dX7_does_178 : decode cX7_does 178 = .ok (.iconst 0, 1) := dk_3 (dk_at dksX7_does_5 3 rfl rfl)
theorem dX7_does_179 : decode cX7_does 179 = .ok (.ireturn, 1) := dk_172 (dk_at dksX7_does_5 4 rfl rfl)
theorem dX7_does_180 : decode cX7_does 180 = .ok (.aload_n 0, 1) := dk_42 (dk_at dksX7_does_5 5 rfl rfl)
theorem dX7_does_181 : decode cX7_does 181 = .ok (.aload_n 0, 1) := dk_42 (dk_at dksX7_does_5 6 rfl rfl)
theorem dX7_does_182 : decode cX7_does 182 = .ok (.getfield 191, 3) := dk_180 0 191 (dk_at dksX7_does_5 7 rfl rfl)
theorem dX7_does_185 : decode cX7_does 185 = .ok (.aload_n 0, 1) := dk_42 (dk_at dksX7_does_5 10 rfl rfl)
theorem dX7_does_186 : decode cX7_does 186 = .ok (.getfield 194, 3) := dk_180 0 194 (dk_at dksX7_does_5 11 rfl rfl)
theorem dX7_does_189 : decode cX7_does 189 = .ok (.invokevirtual 123, 3) := dk_182 0 123 (dk_at dksX7_does_5 14 rfl rfl)
theorem dX7_does_192 : decode cX7_does 192 = .ok (.istore_n 1, 1) := dk_60 (dk_at dksX7_does_5 17 rfl rfl)
theorem dX7_does_193 : decode cX7_does 193 = .ok (.iconst 1, 1) := dk_4 (dk_at dksX7_does_5 18 rfl rfl)
theorem dX7_does_194 : decode cX7_does 194 = .ok (.ireturn, 1) := dk_172 (dk_at dksX7_does_5 19 rfl rfl)
theorem dX7_does_195 : decode cX7_does 195 = .ok (.aload_n 0, 1) := dk_42 (dk_at dksX7_does_5 20 rfl rfl)
theorem dX7_does_196 : decode cX7_does 196 = .ok (.aload_n 0, 1) := dk_42 (dk_at dksX7_does_5 21 rfl rfl)
theorem dX7_does_197 : decode cX7_does 197 = .ok (.getfield 191, 3) := dk_180 0 191 (dk_at dksX7_does_6 0 rfl rfl)
theorem dX7_does_200 : decode cX7_does 200 = .ok (.aload_n 0, 1) := dk_42 (dk_at dksX7_does_6 3 rfl rfl)
theorem dX7_does_201 : decode cX7_does 201 = .ok (.getfield 194, 3) := dk_180 0 194 (dk_at dksX7_does_6 4 rfl rfl)
theorem dX7_does_204 : decode cX7_does 204 = .ok (.aload_n 0, 1) := dk_42 (dk_at dksX7_does_6 7 rfl rfl)
theorem dX7_does_205 : decode cX7_does 205 = .ok (.getfield 197, 3) := dk_180 0 197 (dk_at dksX7_does_6 8 rfl rfl)
theorem dX7_does_208 : decode cX7_does 208 = .ok (.invokevirtual 126, 3) := dk_182 0 126 (dk_at dksX7_does_6 11 rfl rfl)
theorem dX7_does_211 : decode cX7_does 211 = .ok (.ifCond .le 5, 3) := dk_158 0 5 (dk_at dksX7_does_6 14 rfl rfl)
theorem dX7_does_214 : decode cX7_does 214 = .ok (.iconst 0, 1) := dk_3 (dk_at dksX7_does_6 17 rfl rfl)
theorem dX7_does_215 : decode cX7_does 215 = .ok (.ireturn, 1) := dk_172 (dk_at dksX7_does_6 18 rfl rfl)
theorem dX7_does_216 : decode cX7_does 216 = .ok (.aload_n 0, 1) := dk_42 (dk_at dksX7_does_6 19 rfl rfl)
theorem dX7_does_217 : decode cX7_does 217 = .ok (.aload_n 0, 1) := dk_42 (dk_at dksX7_does_6 20 rfl rfl)
theorem dX7_does_218 : decode cX7_does 218 = .ok (.getfield 191, 3) := dk_180 0 191 (dk_at dksX7_does_6 21 rfl rfl)
theorem dX7_does_221 : decode cX7_does 221 = .ok (.aload_n 0, 1) := dk_42 (dk_at dksX7_does_7 0 rfl rfl)
theorem dX7_does_222 : decode cX7_does 222 = .ok (.getfield 194, 3) := dk_180 0 194 (dk_at dksX7_does_7 1 rfl rfl)
theorem dX7_does_225 : decode cX7_does 225 = .ok (.aload_n 0, 1) := dk_42 (dk_at dksX7_does_7 4 rfl rfl)
theorem dX7_does_226 : decode cX7_does 226 = .ok (.getfield 197, 3) := dk_180 0 197 (dk_at dksX7_does_7 5 rfl rfl)
theorem dX7_does_229 : decode cX7_does 229 = .ok (.invokevirtual 129, 3) := dk_182 0 129 (dk_at dksX7_does_7 8 rfl rfl)
theorem dX7_does_232 : decode cX7_does 232 = .ok (.istore_n 1, 1) := dk_60 (dk_at dksX7_does_7 11 rfl rfl)
theorem dX7_does_233 : decode cX7_does 233 = .ok (.iconst 1, 1) := dk_4 (dk_at dksX7_does_7 12 rfl rfl)
theorem dX7_does_234 : decode cX7_does 234 = .ok (.ireturn, 1) := dk_172 (dk_at dksX7_does_7 13 rfl rfl)
theorem dX7_does_235 : decode cX7_does 235 = .ok (.aload_n 0, 1) := dk_42 (dk_at dksX7_does_7 14 rfl rfl)
theorem dX7_does_236 : decode cX7_does 236 = .ok (.aload_n 0, 1) := dk_42 (dk_at dksX7_does_7 15 rfl rfl)
theorem dX7_does_237 : decode cX7_does 237 = .ok (.getfield 191, 3) := dk_180 0 191 (dk_at dksX7_does_7 16 rfl rfl)
theorem dX7_does_240 : decode cX7_does 240 = .ok (.aload_n 0, 1) := dk_42 (dk_at dksX7_does_7 19 rfl rfl)
theorem dX7_does_241 : decode cX7_does 241 = .ok (.getfield 194, 3) := dk_180 0 194 (dk_at dksX7_does_7 20 rfl rfl)
theorem dX7_does_244 : decode cX7_does 244 = .ok (.invokevirtual 132, 3) := dk_182 0 132 (dk_at dksX7_does_8 0 rfl rfl)
theorem dX7_does_247 : decode cX7_does 247 = .ok (.ifCond .le 5, 3) := dk_158 0 5 (dk_at dksX7_does_8 3 rfl rfl)
theorem dX7_does_250 : decode cX7_does 250 = .ok (.iconst 0, 1) := dk_3 (dk_at dksX7_does_8 6 rfl rfl)
theorem dX7_does_251 : decode cX7_does 251 = .ok (.ireturn, 1) := dk_172 (dk_at dksX7_does_8 7 rfl rfl)
theorem dX7_does_252 : decode cX7_does 252 = .ok (.aload_n 0, 1) := dk_42 (dk_at dksX7_does_8 8 rfl rfl)
theorem dX7_does_253 : decode cX7_does 253 = .ok (.aload_n 0, 1) := dk_42 (dk_at dksX7_does_8 9 rfl rfl)
theorem dX7_does_254 : decode cX7_does 254 = .ok (.getfield 191, 3) := dk_180 0 191 (dk_at dksX7_does_8 10 rfl rfl)
theorem dX7_does_257 : decode cX7_does 257 = .ok (.aload_n 0, 1) := dk_42 (dk_at dksX7_does_8 13 rfl rfl)
theorem dX7_does_258 : decode cX7_does 258 = .ok (.getfield 194, 3) := dk_180 0 194 (dk_at dksX7_does_8 14 rfl rfl)
theorem dX7_does_261 : decode cX7_does 261 = .ok (.invokevirtual 135, 3) := dk_182 0 135 (dk_at dksX7_does_8 17 rfl rfl)
theorem dX7_does_264 : decode cX7_does 264 = .ok (.istore_n 1, 1) := dk_60 (dk_at dksX7_does_8 20 rfl rfl)
theorem dX7_does_265 : decode cX7_does 265 = .ok (.iconst 1, 1) := dk_4 (dk_at dksX7_does_8 21 rfl rfl)
theorem dX7_does_266 : decode cX7_does 266 = .ok (.ireturn, 1) := dk_172 (dk_at dksX7_does_8 22 rfl rfl)
theorem dX7_does_267 : decode cX7_does 267 = .ok (.aload_n 0, 1) := dk_42 (dk_at dksX7_does_8 23 rfl rfl)
theorem dX7_does_268 : decode cX7_does 268 = .ok (.aload_n 0, 1) := dk_42 (dk_at dksX7_does_9 0 rfl rfl)
theorem dX7_does_269 : decode cX7_does 269 = .ok (.getfield 191, 3) := dk_180 0 191 (dk_at dksX7_does_9 1 rfl rfl)
theorem dX7_does_272 : decode cX7_does 272 = .ok (.aload_n 0, 1) := dk_42 (dk_at dksX7_does_9 4 rfl rfl)
theorem dX7_does_273 : decode cX7_does 273 = .ok (.getfield 194, 3) := dk_180 0 194 (dk_at dksX7_does_9 5 rfl rfl)
theorem dX7_does_276 : decode cX7_does 276 = .ok (.iconst 1, 1) := dk_4 (dk_at dksX7_does_9 8 rfl rfl)
theorem dX7_does_277 : decode cX7_does 277 = .ok (.if_icmp .ne 7, 3) := dk_160 0 7 (dk_at dksX7_does_9 9 rfl rfl)
theorem dX7_does_280 : decode cX7_does 280 = .ok (.iconst 1, 1) := dk_4 (dk_at dksX7_does_9 12 rfl rfl)
theorem dX7_does_281 : decode cX7_does 281 = .ok (.goto 4, 3) := dk_167 0 4 (dk_at dksX7_does_9 13 rfl rfl)
theorem dX7_does_284 : decode cX7_does 284 = .ok (.iconst 0, 1) := dk_3 (dk_at dksX7_does_9 16 rfl rfl)
theorem dX7_does_285 : decode cX7_does 285 = .ok (.invokevirtual 107, 3) := dk_182 0 107 (dk_at dksX7_does_9 17 rfl rfl)
theorem dX7_does_288 : decode cX7_does 288 = .ok (.ifCond .le 5, 3) := dk_158 0 5 (dk_at dksX7_does_9 20 rfl rfl)
theorem dX7_does_291 : decode cX7_does 291 = .ok (.iconst 0, 1) := dk_3 (dk_at dksX7_does_9 23 rfl rfl)
theorem dX7_does_292 : decode cX7_does 292 = .ok (.ireturn, 1) := dk_172 (dk_at dksX7_does_10 0 rfl rfl)
theorem dX7_does_293 : decode cX7_does 293 = .ok (.aload_n 0, 1) := dk_42 (dk_at dksX7_does_10 1 rfl rfl)
theorem dX7_does_294 : decode cX7_does 294 = .ok (.getfield 7, 3) := dk_180 0 7 (dk_at dksX7_does_10 2 rfl rfl)
theorem dX7_does_297 : decode cX7_does 297 = .ok (.bipush 56, 2) := dk_16 56 (dk_at dksX7_does_10 5 rfl rfl)
theorem dX7_does_299 : decode cX7_does 299 = .ok (.aload_n 0, 1) := dk_42 (dk_at dksX7_does_10 7 rfl rfl)
theorem dX7_does_300 : decode cX7_does 300 = .ok (.getfield 191, 3) := dk_180 0 191 (dk_at dksX7_does_10 8 rfl rfl)
theorem dX7_does_303 : decode cX7_does 303 = .ok (.iadd, 1) := dk_96 (dk_at dksX7_does_10 11 rfl rfl)
theorem dX7_does_304 : decode cX7_does 304 = .ok (.aload_n 0, 1) := dk_42 (dk_at dksX7_does_10 12 rfl rfl)
theorem dX7_does_305 : decode cX7_does 305 = .ok (.getfield 194, 3) := dk_180 0 194 (dk_at dksX7_does_10 13 rfl rfl)
theorem dX7_does_308 : decode cX7_does 308 = .ok (.iastore, 1) := dk_79 (dk_at dksX7_does_10 16 rfl rfl)
theorem dX7_does_309 : decode cX7_does 309 = .ok (.iconst 1, 1) := dk_4 (dk_at dksX7_does_10 17 rfl rfl)
theorem dX7_does_310 : decode cX7_does 310 = .ok (.ireturn, 1) := dk_172 (dk_at dksX7_does_10 18 rfl rfl)
theorem dX7_does_311 : decode cX7_does 311 = .ok (.aload_n 0, 1) := dk_42 (dk_at dksX7_does_10 19 rfl rfl)
theorem dX7_does_312 : decode cX7_does 312 = .ok (.aload_n 0, 1) := dk_42 (dk_at dksX7_does_10 20 rfl rfl)
theorem dX7_does_313 : decode cX7_does 313 = .ok (.getfield 191, 3) := dk_180 0 191 (dk_at dksX7_does_10 21 rfl rfl)
theorem dX7_does_316 : decode cX7_does 316 = .ok (.invokevirtual 141, 3) := dk_182 0 141 (dk_at dksX7_does_11 0 rfl rfl)
theorem dX7_does_319 : decode cX7_does 319 = .ok (.ifCond .le 5, 3) := dk_158 0 5 (dk_at dksX7_does_11 3 rfl rfl)
theorem dX7_does_322 : decode cX7_does 322 = .ok (.iconst 0, 1) := dk_3 (dk_at dksX7_does_11 6 rfl rfl)
theorem dX7_does_323 : decode cX7_does 323 = .ok (.ireturn, 1) := dk_172 (dk_at dksX7_does_11 7 rfl rfl)
theorem dX7_does_324 : decode cX7_does 324 = .ok (.aload_n 0, 1) := dk_42 (dk_at dksX7_does_11 8 rfl rfl)
theorem dX7_does_325 : decode cX7_does 325 = .ok (.aload_n 0, 1) := dk_42 (dk_at dksX7_does_11 9 rfl rfl)
theorem dX7_does_326 : decode cX7_does 326 = .ok (.getfield 191, 3) := dk_180 0 191 (dk_at dksX7_does_11 10 rfl rfl)
theorem dX7_does_329 : decode cX7_does 329 = .ok (.invokevirtual 144, 3) := dk_182 0 144 (dk_at dksX7_does_11 13 rfl rfl)
theorem dX7_does_332 : decode cX7_does 332 = .ok (.istore_n 1, 1) := dk_60 (dk_at dksX7_does_11 16 rfl rfl)
theorem dX7_does_333 : decode cX7_does 333 = .ok (.iconst 1, 1) := dk_4 (dk_at dksX7_does_11 17 rfl rfl)
theorem dX7_does_334 : decode cX7_does 334 = .ok (.ireturn, 1) := dk_172 (dk_at dksX7_does_11 18 rfl rfl)
theorem dX7_does_335 : decode cX7_does 335 = .ok (.aload_n 0, 1) := dk_42 (dk_at dksX7_does_11 19 rfl rfl)
theorem dX7_does_336 : decode cX7_does 336 = .ok (.aload_n 0, 1) := dk_42 (dk_at dksX7_does_11 20 rfl rfl)
theorem dX7_does_337 : decode cX7_does 337 = .ok (.getfield 191, 3) := dk_180 0 191 (dk_at dksX7_does_11 21 rfl rfl)
theorem dX7_does_340 : decode cX7_does 340 = .ok (.aload_n 0, 1) := dk_42 (dk_at dksX7_does_12 0 rfl rfl)
theorem dX7_does_341 : decode cX7_does 341 = .ok (.getfield 194, 3) := dk_180 0 194 (dk_at dksX7_does_12 1 rfl rfl)
theorem dX7_does_344 : decode cX7_does 344 = .ok (.invokevirtual 138, 3) := dk_182 0 138 (dk_at dksX7_does_12 4 rfl rfl)
theorem dX7_does_347 : decode cX7_does 347 = .ok (.istore_n 1, 1) := dk_60 (dk_at dksX7_does_12 7 rfl rfl)
theorem dX7_does_348 : decode cX7_does 348 = .ok (.iconst 1, 1) := dk_4 (dk_at dksX7_does_12 8 rfl rfl)
theorem dX7_does_349 : decode cX7_does 349 = .ok (.ireturn, 1) := dk_172 (dk_at dksX7_does_12 9 rfl rfl)
abbrev cX7_undo : ByteArray := prog_13_method_92_code
def yX7_undo : MethodName := ⟨RX7, "undo", "()I"⟩
def dkwX7_undo_4 : List UInt8 := [132, 1, 1, 167, 255, 225, 42, 180, 0, 65, 172]
abbrev dktX7_undo_4 : List UInt8 := dkwX7_undo_4 ++ []
def dkwX7_undo_3 : List UInt8 := [162, 0, 30, 42, 180, 0, 13, 27, 42, 180, 0, 20, 17, 2, 208, 42, 180, 0, 65, 104, 27, 96, 48, 81]
abbrev dktX7_undo_3 : List UInt8 := dkwX7_undo_3 ++ dktX7_undo_4
def dkwX7_undo_2 : List UInt8 := [17, 6, 30, 42, 180, 0, 65, 104, 27, 96, 46, 79, 132, 1, 1, 167, 255, 225, 3, 60, 27, 17, 2, 208]
abbrev dktX7_undo_2 : List UInt8 := dkwX7_undo_2 ++ dktX7_undo_3
def dkwX7_undo_1 : List UInt8 := [100, 181, 0, 65, 3, 60, 27, 17, 6, 30, 162, 0, 30, 42, 180, 0, 7, 27, 42, 180, 0, 17]
abbrev dktX7_undo_1 : List UInt8 := dkwX7_undo_1 ++ dktX7_undo_2
def dkwX7_undo_0 : List UInt8 := [42, 3, 181, 0, 32, 42, 180, 0, 65, 154, 0, 9, 42, 4, 182, 0, 78, 172, 42, 89, 180, 0, 65, 4]
abbrev dktX7_undo_0 : List UInt8 := dkwX7_undo_0 ++ dktX7_undo_1
theorem dksX7_undo_0 : cX7_undo.data.toList.drop 0 = dktX7_undo_0 := by decide +kernel
theorem dksX7_undo_1 : cX7_undo.data.toList.drop 24 = dktX7_undo_1 := dk_seg dksX7_undo_0 24 rfl rfl
theorem dksX7_undo_2 : cX7_undo.data.toList.drop 46 = dktX7_undo_2 := dk_seg dksX7_undo_1 22 rfl rfl
theorem dksX7_undo_3 : cX7_undo.data.toList.drop 70 = dktX7_undo_3 := dk_seg dksX7_undo_2 24 rfl rfl
theorem dksX7_undo_4 : cX7_undo.data.toList.drop 94 = dktX7_undo_4 := dk_seg dksX7_undo_3 24 rfl rfl
theorem dX7_undo_0 : decode cX7_undo 0 = .ok (.aload_n 0, 1) := dk_42 (dk_at dksX7_undo_0 0 rfl rfl)
theorem dX7_undo_1 : decode cX7_undo 1 = .ok (.iconst 0, 1) := dk_3 (dk_at dksX7_undo_0 1 rfl rfl)
theorem dX7_undo_2 : decode cX7_undo 2 = .ok (.putfield 32, 3) := dk_181 0 32 (dk_at dksX7_undo_0 2 rfl rfl)
theorem dX7_undo_5 : decode cX7_undo 5 = .ok (.aload_n 0, 1) := dk_42 (dk_at dksX7_undo_0 5 rfl rfl)
theorem dX7_undo_6 : decode cX7_undo 6 = .ok (.getfield 65, 3) := dk_180 0 65 (dk_at dksX7_undo_0 6 rfl rfl)
theorem dX7_undo_9 : decode cX7_undo 9 = .ok (.ifCond .ne 9, 3) := dk_154 0 9 (dk_at dksX7_undo_0 9 rfl rfl)
theorem dX7_undo_12 : decode cX7_undo 12 = .ok (.aload_n 0, 1) := dk_42 (dk_at dksX7_undo_0 12 rfl rfl)
theorem dX7_undo_13 : decode cX7_undo 13 = .ok (.iconst 1, 1) := dk_4 (dk_at dksX7_undo_0 13 rfl rfl)
theorem dX7_undo_14 : decode cX7_undo 14 = .ok (.invokevirtual 78, 3) := dk_182 0 78 (dk_at dksX7_undo_0 14 rfl rfl)
theorem dX7_undo_17 : decode cX7_undo 17 = .ok (.ireturn, 1) := dk_172 (dk_at dksX7_undo_0 17 rfl rfl)
theorem dX7_undo_18 : decode cX7_undo 18 = .ok (.aload_n 0, 1) := dk_42 (dk_at dksX7_undo_0 18 rfl rfl)
theorem dX7_undo_19 : decode cX7_undo 19 = .ok (.dup, 1) := dk_89 (dk_at dksX7_undo_0 19 rfl rfl)
theorem dX7_undo_20 : decode cX7_undo 20 = .ok (.getfield 65, 3) := dk_180 0 65 (dk_at dksX7_undo_0 20 rfl rfl)
theorem dX7_undo_23 : decode cX7_undo 23 = .ok (.iconst 1, 1) := dk_4 (dk_at dksX7_undo_0 23 rfl rfl)
theorem dX7_undo_24 : decode cX7_undo 24 = .ok (.isub, 1) := dk_100 (dk_at dksX7_undo_1 0 rfl rfl)
theorem dX7_undo_25 : decode cX7_undo 25 = .ok (.putfield 65, 3) := dk_181 0 65 (dk_at dksX7_undo_1 1 rfl rfl)
theorem dX7_undo_28 : decode cX7_undo 28 = .ok (.iconst 0, 1) := dk_3 (dk_at dksX7_undo_1 4 rfl rfl)
theorem dX7_undo_29 : decode cX7_undo 29 = .ok (.istore_n 1, 1) := dk_60 (dk_at dksX7_undo_1 5 rfl rfl)
theorem dX7_undo_30 : decode cX7_undo 30 = .ok (.iload_n 1, 1) := dk_27 (dk_at dksX7_undo_1 6 rfl rfl)
theorem dX7_undo_31 : decode cX7_undo 31 = .ok (.sipush 1566, 3) := dk_17 6 30 (dk_at dksX7_undo_1 7 rfl rfl)
theorem dX7_undo_34 : decode cX7_undo 34 = .ok (.if_icmp .ge 30, 3) := dk_162 0 30 (dk_at dksX7_undo_1 10 rfl rfl)
theorem dX7_undo_37 : decode cX7_undo 37 = .ok (.aload_n 0, 1) := dk_42 (dk_at dksX7_undo_1 13 rfl rfl)
theorem dX7_undo_38 : decode cX7_undo 38 = .ok (.getfield 7, 3) := dk_180 0 7 (dk_at dksX7_undo_1 14 rfl rfl)
theorem dX7_undo_41 : decode cX7_undo 41 = .ok (.iload_n 1, 1) := dk_27 (dk_at dksX7_undo_1 17 rfl rfl)
theorem dX7_undo_42 : decode cX7_undo 42 = .ok (.aload_n 0, 1) := dk_42 (dk_at dksX7_undo_1 18 rfl rfl)
theorem dX7_undo_43 : decode cX7_undo 43 = .ok (.getfield 17, 3) := dk_180 0 17 (dk_at dksX7_undo_1 19 rfl rfl)
theorem dX7_undo_46 : decode cX7_undo 46 = .ok (.sipush 1566, 3) := dk_17 6 30 (dk_at dksX7_undo_2 0 rfl rfl)
theorem dX7_undo_49 : decode cX7_undo 49 = .ok (.aload_n 0, 1) := dk_42 (dk_at dksX7_undo_2 3 rfl rfl)
theorem dX7_undo_50 : decode cX7_undo 50 = .ok (.getfield 65, 3) := dk_180 0 65 (dk_at dksX7_undo_2 4 rfl rfl)
theorem dX7_undo_53 : decode cX7_undo 53 = .ok (.imul, 1) := dk_104 (dk_at dksX7_undo_2 7 rfl rfl)
theorem dX7_undo_54 : decode cX7_undo 54 = .ok (.iload_n 1, 1) := dk_27 (dk_at dksX7_undo_2 8 rfl rfl)
theorem dX7_undo_55 : decode cX7_undo 55 = .ok (.iadd, 1) := dk_96 (dk_at dksX7_undo_2 9 rfl rfl)
theorem dX7_undo_56 : decode cX7_undo 56 = .ok (.iaload, 1) := dk_46 (dk_at dksX7_undo_2 10 rfl rfl)
theorem dX7_undo_57 : decode cX7_undo 57 = .ok (.iastore, 1) := dk_79 (dk_at dksX7_undo_2 11 rfl rfl)
theorem dX7_undo_58 : decode cX7_undo 58 = .ok (.iinc 1 1, 3) := dk_132 1 1 (dk_at dksX7_undo_2 12 rfl rfl)
theorem dX7_undo_61 : decode cX7_undo 61 = .ok (.goto (-31), 3) := dk_167 255 225 (dk_at dksX7_undo_2 15 rfl rfl)
theorem dX7_undo_64 : decode cX7_undo 64 = .ok (.iconst 0, 1) := dk_3 (dk_at dksX7_undo_2 18 rfl rfl)
theorem dX7_undo_65 : decode cX7_undo 65 = .ok (.istore_n 1, 1) := dk_60 (dk_at dksX7_undo_2 19 rfl rfl)
theorem dX7_undo_66 : decode cX7_undo 66 = .ok (.iload_n 1, 1) := dk_27 (dk_at dksX7_undo_2 20 rfl rfl)
theorem dX7_undo_67 : decode cX7_undo 67 = .ok (.sipush 720, 3) := dk_17 2 208 (dk_at dksX7_undo_2 21 rfl rfl)
theorem dX7_undo_70 : decode cX7_undo 70 = .ok (.if_icmp .ge 30, 3) := dk_162 0 30 (dk_at dksX7_undo_3 0 rfl rfl)
theorem dX7_undo_73 : decode cX7_undo 73 = .ok (.aload_n 0, 1) := dk_42 (dk_at dksX7_undo_3 3 rfl rfl)
theorem dX7_undo_74 : decode cX7_undo 74 = .ok (.getfield 13, 3) := dk_180 0 13 (dk_at dksX7_undo_3 4 rfl rfl)
theorem dX7_undo_77 : decode cX7_undo 77 = .ok (.iload_n 1, 1) := dk_27 (dk_at dksX7_undo_3 7 rfl rfl)
theorem dX7_undo_78 : decode cX7_undo 78 = .ok (.aload_n 0, 1) := dk_42 (dk_at dksX7_undo_3 8 rfl rfl)
theorem dX7_undo_79 : decode cX7_undo 79 = .ok (.getfield 20, 3) := dk_180 0 20 (dk_at dksX7_undo_3 9 rfl rfl)
theorem dX7_undo_82 : decode cX7_undo 82 = .ok (.sipush 720, 3) := dk_17 2 208 (dk_at dksX7_undo_3 12 rfl rfl)
theorem dX7_undo_85 : decode cX7_undo 85 = .ok (.aload_n 0, 1) := dk_42 (dk_at dksX7_undo_3 15 rfl rfl)
theorem dX7_undo_86 : decode cX7_undo 86 = .ok (.getfield 65, 3) := dk_180 0 65 (dk_at dksX7_undo_3 16 rfl rfl)
theorem dX7_undo_89 : decode cX7_undo 89 = .ok (.imul, 1) := dk_104 (dk_at dksX7_undo_3 19 rfl rfl)
theorem dX7_undo_90 : decode cX7_undo 90 = .ok (.iload_n 1, 1) := dk_27 (dk_at dksX7_undo_3 20 rfl rfl)
theorem dX7_undo_91 : decode cX7_undo 91 = .ok (.iadd, 1) := dk_96 (dk_at dksX7_undo_3 21 rfl rfl)
theorem dX7_undo_92 : decode cX7_undo 92 = .ok (.faload, 1) := dk_48 (dk_at dksX7_undo_3 22 rfl rfl)
theorem dX7_undo_93 : decode cX7_undo 93 = .ok (.fastore, 1) := dk_81 (dk_at dksX7_undo_3 23 rfl rfl)
theorem dX7_undo_94 : decode cX7_undo 94 = .ok (.iinc 1 1, 3) := dk_132 1 1 (dk_at dksX7_undo_4 0 rfl rfl)
theorem dX7_undo_97 : decode cX7_undo 97 = .ok (.goto (-31), 3) := dk_167 255 225 (dk_at dksX7_undo_4 3 rfl rfl)
theorem dX7_undo_100 : decode cX7_undo 100 = .ok (.aload_n 0, 1) := dk_42 (dk_at dksX7_undo_4 6 rfl rfl)
theorem dX7_undo_101 : decode cX7_undo 101 = .ok (.getfield 65, 3) := dk_180 0 65 (dk_at dksX7_undo_4 7 rfl rfl)
theorem dX7_undo_104 : decode cX7_undo 104 = .ok (.ireturn, 1) := dk_172 (dk_at dksX7_undo_4 10 rfl rfl)
abbrev cX7_savedStates : ByteArray := prog_13_method_93_code
def yX7_savedStates : MethodName := ⟨RX7, "savedStates", "()I"⟩
def dkwX7_savedStates_0 : List UInt8 := [42, 3, 181, 0, 32, 42, 180, 0, 65, 172]
abbrev dktX7_savedStates_0 : List UInt8 := dkwX7_savedStates_0 ++ []
theorem dksX7_savedStates_0 : cX7_savedStates.data.toList.drop 0 = dktX7_savedStates_0 := by decide +kernel
theorem dX7_savedStates_0 : decode cX7_savedStates 0 = .ok (.aload_n 0, 1) := dk_42 (dk_at dksX7_savedStates_0 0 rfl rfl)
theorem dX7_savedStates_1 : decode cX7_savedStates 1 = .ok (.iconst 0, 1) := dk_3 (dk_at dksX7_savedStates_0 1 rfl rfl)
theorem dX7_savedStates_2 : decode cX7_savedStates 2 = .ok (.putfield 32, 3) := dk_181 0 32 (dk_at dksX7_savedStates_0 2 rfl rfl)
theorem dX7_savedStates_5 : decode cX7_savedStates 5 = .ok (.aload_n 0, 1) := dk_42 (dk_at dksX7_savedStates_0 5 rfl rfl)
theorem dX7_savedStates_6 : decode cX7_savedStates 6 = .ok (.getfield 65, 3) := dk_180 0 65 (dk_at dksX7_savedStates_0 6 rfl rfl)
theorem dX7_savedStates_9 : decode cX7_savedStates 9 = .ok (.ireturn, 1) := dk_172 (dk_at dksX7_savedStates_0 9 rfl rfl)
abbrev cX7_takeSnapshot : ByteArray := prog_13_method_94_code
def yX7_takeSnapshot : MethodName := ⟨RX7, "takeSnapshot", "()I"⟩
def dkwX7_takeSnapshot_3 : List UInt8 := [172]
abbrev dktX7_takeSnapshot_3 : List UInt8 := dkwX7_takeSnapshot_3 ++ []
def dkwX7_takeSnapshot_2 : List UInt8 := [180, 0, 26, 27, 42, 180, 0, 13, 27, 48, 81, 132, 1, 1, 167, 255, 234, 42, 180, 0, 7, 16, 89, 46]
abbrev dktX7_takeSnapshot_2 : List UInt8 := dkwX7_takeSnapshot_2 ++ dktX7_takeSnapshot_3
def dkwX7_takeSnapshot_1 : List UInt8 := [42, 180, 0, 7, 27, 46, 79, 132, 1, 1, 167, 255, 234, 3, 60, 27, 17, 2, 208, 162, 0, 21, 42]
abbrev dktX7_takeSnapshot_1 : List UInt8 := dkwX7_takeSnapshot_1 ++ dktX7_takeSnapshot_2
def dkwX7_takeSnapshot_0 : List UInt8 := [42, 3, 181, 0, 32, 42, 4, 181, 0, 214, 3, 60, 27, 17, 6, 30, 162, 0, 21, 42, 180, 0, 23, 27]
abbrev dktX7_takeSnapshot_0 : List UInt8 := dkwX7_takeSnapshot_0 ++ dktX7_takeSnapshot_1
theorem dksX7_takeSnapshot_0 : cX7_takeSnapshot.data.toList.drop 0 = dktX7_takeSnapshot_0 := by decide +kernel
theorem dksX7_takeSnapshot_1 : cX7_takeSnapshot.data.toList.drop 24 = dktX7_takeSnapshot_1 := dk_seg dksX7_takeSnapshot_0 24 rfl rfl
theorem dksX7_takeSnapshot_2 : cX7_takeSnapshot.data.toList.drop 47 = dktX7_takeSnapshot_2 := dk_seg dksX7_takeSnapshot_1 23 rfl rfl
theorem dksX7_takeSnapshot_3 : cX7_takeSnapshot.data.toList.drop 71 = dktX7_takeSnapshot_3 := dk_seg dksX7_takeSnapshot_2 24 rfl rfl
theorem dX7_takeSnapshot_0 : decode cX7_takeSnapshot 0 = .ok (.aload_n 0, 1) := dk_42 (dk_at dksX7_takeSnapshot_0 0 rfl rfl)
theorem dX7_takeSnapshot_1 : decode cX7_takeSnapshot 1 = .ok (.iconst 0, 1) := dk_3 (dk_at dksX7_takeSnapshot_0 1 rfl rfl)
theorem dX7_takeSnapshot_2 : decode cX7_takeSnapshot 2 = .ok (.putfield 32, 3) := dk_181 0 32 (dk_at dksX7_takeSnapshot_0 2 rfl rfl)
theorem dX7_takeSnapshot_5 : decode cX7_takeSnapshot 5 = .ok (.aload_n 0, 1) := dk_42 (dk_at dksX7_takeSnapshot_0 5 rfl rfl)
theorem dX7_takeSnapshot_6 : decode cX7_takeSnapshot 6 = .ok (.iconst 1, 1) := dk_4 (dk_at dksX7_takeSnapshot_0 6 rfl rfl)
theorem dX7_takeSnapshot_7 : decode cX7_takeSnapshot 7 = .ok (.putfield 214, 3) := dk_181 0 214 (dk_at dksX7_takeSnapshot_0 7 rfl rfl)
theorem dX7_takeSnapshot_10 : decode cX7_takeSnapshot 10 = .ok (.iconst 0, 1) := dk_3 (dk_at dksX7_takeSnapshot_0 10 rfl rfl)
theorem dX7_takeSnapshot_11 : decode cX7_takeSnapshot 11 = .ok (.istore_n 1, 1) := dk_60 (dk_at dksX7_takeSnapshot_0 11 rfl rfl)
theorem dX7_takeSnapshot_12 : decode cX7_takeSnapshot 12 = .ok (.iload_n 1, 1) := dk_27 (dk_at dksX7_takeSnapshot_0 12 rfl rfl)
theorem dX7_takeSnapshot_13 : decode cX7_takeSnapshot 13 = .ok (.sipush 1566, 3) := dk_17 6 30 (dk_at dksX7_takeSnapshot_0 13 rfl rfl)
theorem dX7_takeSnapshot_16 : decode cX7_takeSnapshot 16 = .ok (.if_icmp .ge 21, 3) := dk_162 0 21 (dk_at dksX7_takeSnapshot_0 16 rfl rfl)
theorem dX7_takeSnapshot_19 : decode cX7_takeSnapshot 19 = .ok (.aload_n 0, 1) := dk_42 (dk_at dksX7_takeSnapshot_0 19 rfl rfl)
theorem dX7_takeSnapshot_20 : decode cX7_takeSnapshot 20 = .ok (.getfield 23, 3) := dk_180 0 23 (dk_at dksX7_takeSnapshot_0 20 rfl rfl)
theorem dX7_takeSnapshot_23 : decode cX7_takeSnapshot 23 = .ok (.iload_n 1, 1) := dk_27 (dk_at dksX7_takeSnapshot_0 23 rfl rfl)
theorem dX7_takeSnapshot_24 : decode cX7_takeSnapshot 24 = .ok (.aload_n 0, 1) := dk_42 (dk_at dksX7_takeSnapshot_1 0 rfl rfl)
theorem dX7_takeSnapshot_25 : decode cX7_takeSnapshot 25 = .ok (.getfield 7, 3) := dk_180 0 7 (dk_at dksX7_takeSnapshot_1 1 rfl rfl)
theorem dX7_takeSnapshot_28 : decode cX7_takeSnapshot 28 = .ok (.iload_n 1, 1) := dk_27 (dk_at dksX7_takeSnapshot_1 4 rfl rfl)
theorem dX7_takeSnapshot_29 : decode cX7_takeSnapshot 29 = .ok (.iaload, 1) := dk_46 (dk_at dksX7_takeSnapshot_1 5 rfl rfl)
theorem dX7_takeSnapshot_30 : decode cX7_takeSnapshot 30 = .ok (.iastore, 1) := dk_79 (dk_at dksX7_takeSnapshot_1 6 rfl rfl)
theorem dX7_takeSnapshot_31 : decode cX7_takeSnapshot 31 = .ok (.iinc 1 1, 3) := dk_132 1 1 (dk_at dksX7_takeSnapshot_1 7 rfl rfl)
theorem dX7_takeSnapshot_34 : decode cX7_takeSnapshot 34 = .ok (.goto (-22), 3) := dk_167 255 234 (dk_at dksX7_takeSnapshot_1 10 rfl rfl)
theorem dX7_takeSnapshot_37 : decode cX7_takeSnapshot 37 = .ok (.iconst 0, 1) := dk_3 (dk_at dksX7_takeSnapshot_1 13 rfl rfl)
theorem dX7_takeSnapshot_38 : decode cX7_takeSnapshot 38 = .ok (.istore_n 1, 1) := dk_60 (dk_at dksX7_takeSnapshot_1 14 rfl rfl)
theorem dX7_takeSnapshot_39 : decode cX7_takeSnapshot 39 = .ok (.iload_n 1, 1) := dk_27 (dk_at dksX7_takeSnapshot_1 15 rfl rfl)
theorem dX7_takeSnapshot_40 : decode cX7_takeSnapshot 40 = .ok (.sipush 720, 3) := dk_17 2 208 (dk_at dksX7_takeSnapshot_1 16 rfl rfl)
theorem dX7_takeSnapshot_43 : decode cX7_takeSnapshot 43 = .ok (.if_icmp .ge 21, 3) := dk_162 0 21 (dk_at dksX7_takeSnapshot_1 19 rfl rfl)
theorem dX7_takeSnapshot_46 : decode cX7_takeSnapshot 46 = .ok (.aload_n 0, 1) := dk_42 (dk_at dksX7_takeSnapshot_1 22 rfl rfl)
theorem dX7_takeSnapshot_47 : decode cX7_takeSnapshot 47 = .ok (.getfield 26, 3) := dk_180 0 26 (dk_at dksX7_takeSnapshot_2 0 rfl rfl)
theorem dX7_takeSnapshot_50 : decode cX7_takeSnapshot 50 = .ok (.iload_n 1, 1) := dk_27 (dk_at dksX7_takeSnapshot_2 3 rfl rfl)
theorem dX7_takeSnapshot_51 : decode cX7_takeSnapshot 51 = .ok (.aload_n 0, 1) := dk_42 (dk_at dksX7_takeSnapshot_2 4 rfl rfl)
theorem dX7_takeSnapshot_52 : decode cX7_takeSnapshot 52 = .ok (.getfield 13, 3) := dk_180 0 13 (dk_at dksX7_takeSnapshot_2 5 rfl rfl)
theorem dX7_takeSnapshot_55 : decode cX7_takeSnapshot 55 = .ok (.iload_n 1, 1) := dk_27 (dk_at dksX7_takeSnapshot_2 8 rfl rfl)
theorem dX7_takeSnapshot_56 : decode cX7_takeSnapshot 56 = .ok (.faload, 1) := dk_48 (dk_at dksX7_takeSnapshot_2 9 rfl rfl)
theorem dX7_takeSnapshot_57 : decode cX7_takeSnapshot 57 = .ok (.fastore, 1) := dk_81 (dk_at dksX7_takeSnapshot_2 10 rfl rfl)
theorem dX7_takeSnapshot_58 : decode cX7_takeSnapshot 58 = .ok (.iinc 1 1, 3) := dk_132 1 1 (dk_at dksX7_takeSnapshot_2 11 rfl rfl)
theorem dX7_takeSnapshot_61 : decode cX7_takeSnapshot 61 = .ok (.goto (-22), 3) := dk_167 255 234 (dk_at dksX7_takeSnapshot_2 14 rfl rfl)
theorem dX7_takeSnapshot_64 : decode cX7_takeSnapshot 64 = .ok (.aload_n 0, 1) := dk_42 (dk_at dksX7_takeSnapshot_2 17 rfl rfl)
theorem dX7_takeSnapshot_65 : decode cX7_takeSnapshot 65 = .ok (.getfield 7, 3) := dk_180 0 7 (dk_at dksX7_takeSnapshot_2 18 rfl rfl)
theorem dX7_takeSnapshot_68 : decode cX7_takeSnapshot 68 = .ok (.bipush 89, 2) := dk_16 89 (dk_at dksX7_takeSnapshot_2 21 rfl rfl)
theorem dX7_takeSnapshot_70 : decode cX7_takeSnapshot 70 = .ok (.iaload, 1) := dk_46 (dk_at dksX7_takeSnapshot_2 23 rfl rfl)
theorem dX7_takeSnapshot_71 : decode cX7_takeSnapshot 71 = .ok (.ireturn, 1) := dk_172 (dk_at dksX7_takeSnapshot_3 0 rfl rfl)
abbrev cX7_restoreSnapshot : ByteArray := prog_13_method_95_code
def yX7_restoreSnapshot : MethodName := ⟨RX7, "restoreSnapshot", "()I"⟩
def dkwX7_restoreSnapshot_3 : List UInt8 := [132, 1, 1, 167, 255, 234, 42, 180, 0, 7, 16, 89, 46, 172]
abbrev dktX7_restoreSnapshot_3 : List UInt8 := dkwX7_restoreSnapshot_3 ++ []
def dkwX7_restoreSnapshot_2 : List UInt8 := [167, 255, 234, 3, 60, 27, 17, 2, 208, 162, 0, 21, 42, 180, 0, 13, 27, 42, 180, 0, 26, 27, 48, 81]
abbrev dktX7_restoreSnapshot_2 : List UInt8 := dkwX7_restoreSnapshot_2 ++ dktX7_restoreSnapshot_3
def dkwX7_restoreSnapshot_1 : List UInt8 := [27, 17, 6, 30, 162, 0, 21, 42, 180, 0, 7, 27, 42, 180, 0, 23, 27, 46, 79, 132, 1, 1]
abbrev dktX7_restoreSnapshot_1 : List UInt8 := dkwX7_restoreSnapshot_1 ++ dktX7_restoreSnapshot_2
def dkwX7_restoreSnapshot_0 : List UInt8 := [42, 3, 181, 0, 32, 42, 180, 0, 214, 154, 0, 9, 42, 4, 182, 0, 78, 172, 42, 182, 0, 68, 3, 60]
abbrev dktX7_restoreSnapshot_0 : List UInt8 := dkwX7_restoreSnapshot_0 ++ dktX7_restoreSnapshot_1
theorem dksX7_restoreSnapshot_0 : cX7_restoreSnapshot.data.toList.drop 0 = dktX7_restoreSnapshot_0 := by decide +kernel
theorem dksX7_restoreSnapshot_1 : cX7_restoreSnapshot.data.toList.drop 24 = dktX7_restoreSnapshot_1 := dk_seg dksX7_restoreSnapshot_0 24 rfl rfl
theorem dksX7_restoreSnapshot_2 : cX7_restoreSnapshot.data.toList.drop 46 = dktX7_restoreSnapshot_2 := dk_seg dksX7_restoreSnapshot_1 22 rfl rfl
theorem dksX7_restoreSnapshot_3 : cX7_restoreSnapshot.data.toList.drop 70 = dktX7_restoreSnapshot_3 := dk_seg dksX7_restoreSnapshot_2 24 rfl rfl
theorem dX7_restoreSnapshot_0 : decode cX7_restoreSnapshot 0 = .ok (.aload_n 0, 1) := dk_42 (dk_at dksX7_restoreSnapshot_0 0 rfl rfl)
theorem dX7_restoreSnapshot_1 : decode cX7_restoreSnapshot 1 = .ok (.iconst 0, 1) := dk_3 (dk_at dksX7_restoreSnapshot_0 1 rfl rfl)
theorem dX7_restoreSnapshot_2 : decode cX7_restoreSnapshot 2 = .ok (.putfield 32, 3) := dk_181 0 32 (dk_at dksX7_restoreSnapshot_0 2 rfl rfl)
theorem dX7_restoreSnapshot_5 : decode cX7_restoreSnapshot 5 = .ok (.aload_n 0, 1) := dk_42 (dk_at dksX7_restoreSnapshot_0 5 rfl rfl)
theorem dX7_restoreSnapshot_6 : decode cX7_restoreSnapshot 6 = .ok (.getfield 214, 3) := dk_180 0 214 (dk_at dksX7_restoreSnapshot_0 6 rfl rfl)
theorem dX7_restoreSnapshot_9 : decode cX7_restoreSnapshot 9 = .ok (.ifCond .ne 9, 3) := dk_154 0 9 (dk_at dksX7_restoreSnapshot_0 9 rfl rfl)
theorem dX7_restoreSnapshot_12 : decode cX7_restoreSnapshot 12 = .ok (.aload_n 0, 1) := dk_42 (dk_at dksX7_restoreSnapshot_0 12 rfl rfl)
theorem dX7_restoreSnapshot_13 : decode cX7_restoreSnapshot 13 = .ok (.iconst 1, 1) := dk_4 (dk_at dksX7_restoreSnapshot_0 13 rfl rfl)
theorem dX7_restoreSnapshot_14 : decode cX7_restoreSnapshot 14 = .ok (.invokevirtual 78, 3) := dk_182 0 78 (dk_at dksX7_restoreSnapshot_0 14 rfl rfl)
theorem dX7_restoreSnapshot_17 : decode cX7_restoreSnapshot 17 = .ok (.ireturn, 1) := dk_172 (dk_at dksX7_restoreSnapshot_0 17 rfl rfl)
theorem dX7_restoreSnapshot_18 : decode cX7_restoreSnapshot 18 = .ok (.aload_n 0, 1) := dk_42 (dk_at dksX7_restoreSnapshot_0 18 rfl rfl)
theorem dX7_restoreSnapshot_19 : decode cX7_restoreSnapshot 19 = .ok (.invokevirtual 68, 3) := dk_182 0 68 (dk_at dksX7_restoreSnapshot_0 19 rfl rfl)
theorem dX7_restoreSnapshot_22 : decode cX7_restoreSnapshot 22 = .ok (.iconst 0, 1) := dk_3 (dk_at dksX7_restoreSnapshot_0 22 rfl rfl)
theorem dX7_restoreSnapshot_23 : decode cX7_restoreSnapshot 23 = .ok (.istore_n 1, 1) := dk_60 (dk_at dksX7_restoreSnapshot_0 23 rfl rfl)
theorem dX7_restoreSnapshot_24 : decode cX7_restoreSnapshot 24 = .ok (.iload_n 1, 1) := dk_27 (dk_at dksX7_restoreSnapshot_1 0 rfl rfl)
theorem dX7_restoreSnapshot_25 : decode cX7_restoreSnapshot 25 = .ok (.sipush 1566, 3) := dk_17 6 30 (dk_at dksX7_restoreSnapshot_1 1 rfl rfl)
theorem dX7_restoreSnapshot_28 : decode cX7_restoreSnapshot 28 = .ok (.if_icmp .ge 21, 3) := dk_162 0 21 (dk_at dksX7_restoreSnapshot_1 4 rfl rfl)
theorem dX7_restoreSnapshot_31 : decode cX7_restoreSnapshot 31 = .ok (.aload_n 0, 1) := dk_42 (dk_at dksX7_restoreSnapshot_1 7 rfl rfl)
theorem dX7_restoreSnapshot_32 : decode cX7_restoreSnapshot 32 = .ok (.getfield 7, 3) := dk_180 0 7 (dk_at dksX7_restoreSnapshot_1 8 rfl rfl)
theorem dX7_restoreSnapshot_35 : decode cX7_restoreSnapshot 35 = .ok (.iload_n 1, 1) := dk_27 (dk_at dksX7_restoreSnapshot_1 11 rfl rfl)
theorem dX7_restoreSnapshot_36 : decode cX7_restoreSnapshot 36 = .ok (.aload_n 0, 1) := dk_42 (dk_at dksX7_restoreSnapshot_1 12 rfl rfl)
theorem dX7_restoreSnapshot_37 : decode cX7_restoreSnapshot 37 = .ok (.getfield 23, 3) := dk_180 0 23 (dk_at dksX7_restoreSnapshot_1 13 rfl rfl)
theorem dX7_restoreSnapshot_40 : decode cX7_restoreSnapshot 40 = .ok (.iload_n 1, 1) := dk_27 (dk_at dksX7_restoreSnapshot_1 16 rfl rfl)
theorem dX7_restoreSnapshot_41 : decode cX7_restoreSnapshot 41 = .ok (.iaload, 1) := dk_46 (dk_at dksX7_restoreSnapshot_1 17 rfl rfl)
theorem dX7_restoreSnapshot_42 : decode cX7_restoreSnapshot 42 = .ok (.iastore, 1) := dk_79 (dk_at dksX7_restoreSnapshot_1 18 rfl rfl)
theorem dX7_restoreSnapshot_43 : decode cX7_restoreSnapshot 43 = .ok (.iinc 1 1, 3) := dk_132 1 1 (dk_at dksX7_restoreSnapshot_1 19 rfl rfl)
theorem dX7_restoreSnapshot_46 : decode cX7_restoreSnapshot 46 = .ok (.goto (-22), 3) := dk_167 255 234 (dk_at dksX7_restoreSnapshot_2 0 rfl rfl)
theorem dX7_restoreSnapshot_49 : decode cX7_restoreSnapshot 49 = .ok (.iconst 0, 1) := dk_3 (dk_at dksX7_restoreSnapshot_2 3 rfl rfl)
theorem dX7_restoreSnapshot_50 : decode cX7_restoreSnapshot 50 = .ok (.istore_n 1, 1) := dk_60 (dk_at dksX7_restoreSnapshot_2 4 rfl rfl)
theorem dX7_restoreSnapshot_51 : decode cX7_restoreSnapshot 51 = .ok (.iload_n 1, 1) := dk_27 (dk_at dksX7_restoreSnapshot_2 5 rfl rfl)
theorem dX7_restoreSnapshot_52 : decode cX7_restoreSnapshot 52 = .ok (.sipush 720, 3) := dk_17 2 208 (dk_at dksX7_restoreSnapshot_2 6 rfl rfl)
theorem dX7_restoreSnapshot_55 : decode cX7_restoreSnapshot 55 = .ok (.if_icmp .ge 21, 3) := dk_162 0 21 (dk_at dksX7_restoreSnapshot_2 9 rfl rfl)
theorem dX7_restoreSnapshot_58 : decode cX7_restoreSnapshot 58 = .ok (.aload_n 0, 1) := dk_42 (dk_at dksX7_restoreSnapshot_2 12 rfl rfl)
theorem dX7_restoreSnapshot_59 : decode cX7_restoreSnapshot 59 = .ok (.getfield 13, 3) := dk_180 0 13 (dk_at dksX7_restoreSnapshot_2 13 rfl rfl)
theorem dX7_restoreSnapshot_62 : decode cX7_restoreSnapshot 62 = .ok (.iload_n 1, 1) := dk_27 (dk_at dksX7_restoreSnapshot_2 16 rfl rfl)
theorem dX7_restoreSnapshot_63 : decode cX7_restoreSnapshot 63 = .ok (.aload_n 0, 1) := dk_42 (dk_at dksX7_restoreSnapshot_2 17 rfl rfl)
theorem dX7_restoreSnapshot_64 : decode cX7_restoreSnapshot 64 = .ok (.getfield 26, 3) := dk_180 0 26 (dk_at dksX7_restoreSnapshot_2 18 rfl rfl)
theorem dX7_restoreSnapshot_67 : decode cX7_restoreSnapshot 67 = .ok (.iload_n 1, 1) := dk_27 (dk_at dksX7_restoreSnapshot_2 21 rfl rfl)
theorem dX7_restoreSnapshot_68 : decode cX7_restoreSnapshot 68 = .ok (.faload, 1) := dk_48 (dk_at dksX7_restoreSnapshot_2 22 rfl rfl)
theorem dX7_restoreSnapshot_69 : decode cX7_restoreSnapshot 69 = .ok (.fastore, 1) := dk_81 (dk_at dksX7_restoreSnapshot_2 23 rfl rfl)
theorem dX7_restoreSnapshot_70 : decode cX7_restoreSnapshot 70 = .ok (.iinc 1 1, 3) := dk_132 1 1 (dk_at dksX7_restoreSnapshot_3 0 rfl rfl)
theorem dX7_restoreSnapshot_73 : decode cX7_restoreSnapshot 73 = .ok (.goto (-22), 3) := dk_167 255 234 (dk_at dksX7_restoreSnapshot_3 3 rfl rfl)
theorem dX7_restoreSnapshot_76 : decode cX7_restoreSnapshot 76 = .ok (.aload_n 0, 1) := dk_42 (dk_at dksX7_restoreSnapshot_3 6 rfl rfl)
theorem dX7_restoreSnapshot_77 : decode cX7_restoreSnapshot 77 = .ok (.getfield 7, 3) := dk_180 0 7 (dk_at dksX7_restoreSnapshot_3 7 rfl rfl)
theorem dX7_restoreSnapshot_80 : decode cX7_restoreSnapshot 80 = .ok (.bipush 89, 2) := dk_16 89 (dk_at dksX7_restoreSnapshot_3 10 rfl rfl)
theorem dX7_restoreSnapshot_82 : decode cX7_restoreSnapshot 82 = .ok (.iaload, 1) := dk_46 (dk_at dksX7_restoreSnapshot_3 12 rfl rfl)
theorem dX7_restoreSnapshot_83 : decode cX7_restoreSnapshot 83 = .ok (.ireturn, 1) := dk_172 (dk_at dksX7_restoreSnapshot_3 13 rfl rfl)
theorem q88 : (Jvm.Cond.initialized "DiskPacksModel") ∈ lw_all := lw_g (lw_at lw_m1 19 rfl) rfl
theorem q1177 : (Jvm.Cond.selects "DiskPacksModel" ({ cls := "java/lang/Object", name := "getClass", desc := "()Ljava/lang/Class;" } : Jvm.MethodName) ({ cls := "java/lang/Object", name := "getClass", desc := "()Ljava/lang/Class;" } : Jvm.MethodName)) ∈ lw_all := lw_g (lw_at lw_m5 148 rfl) rfl
theorem q1715 : (Jvm.Cond.instantiable "DiskPacksModel" (17 : Nat)) ∈ lw_all := lw_g (lw_at lw_m7 206 rfl) rfl
theorem q1717 : (Jvm.Cond.instanceMethod ({ cls := "DiskPacksModel", name := "<init>", desc := "()V" } : Jvm.MethodName)) ∈ lw_all := lw_g (lw_at lw_m7 208 rfl) rfl
theorem q1718 : (Jvm.Cond.code ({ cls := "DiskPacksModel", name := "<init>", desc := "()V" } : Jvm.MethodName) prog_13_method_1_code (2 : Nat) (Option.none : Option Jvm.ClassFile.FieldType)) ∈ lw_all := lw_g (lw_at lw_m7 209 rfl) rfl
theorem q1719 : (Jvm.Cond.methodLink "DiskPacksModel" (1 : Nat) ({ cls := "java/lang/Object", name := "<init>", desc := "()V" } : Jvm.MethodName)) ∈ lw_all := lw_g (lw_at lw_m7 210 rfl) rfl
theorem q1720 : (Jvm.Cond.fieldLink "DiskPacksModel" (7 : Nat) "DiskPacksModel" "row" "[I") ∈ lw_all := lw_g (lw_at lw_m7 211 rfl) rfl
theorem q1721 : (Jvm.Cond.fieldLink "DiskPacksModel" (13 : Nat) "DiskPacksModel" "strength" "[F") ∈ lw_all := lw_g (lw_at lw_m7 212 rfl) rfl
theorem q1722 : (Jvm.Cond.fieldLink "DiskPacksModel" (17 : Nat) "DiskPacksModel" "saved" "[I") ∈ lw_all := lw_g (lw_at lw_m7 213 rfl) rfl
theorem q1723 : (Jvm.Cond.fieldLink "DiskPacksModel" (20 : Nat) "DiskPacksModel" "savedStrength" "[F") ∈ lw_all := lw_g (lw_at lw_m7 214 rfl) rfl
theorem q1724 : (Jvm.Cond.fieldLink "DiskPacksModel" (65 : Nat) "DiskPacksModel" "savedMany" "I") ∈ lw_all := lw_g (lw_at lw_m7 215 rfl) rfl
theorem q1725 : (Jvm.Cond.fieldLink "DiskPacksModel" (23 : Nat) "DiskPacksModel" "kept" "[I") ∈ lw_all := lw_g (lw_at lw_m7 216 rfl) rfl
theorem q1726 : (Jvm.Cond.fieldLink "DiskPacksModel" (26 : Nat) "DiskPacksModel" "keptStrength" "[F") ∈ lw_all := lw_g (lw_at lw_m7 217 rfl) rfl
theorem q1727 : (Jvm.Cond.fieldLink "DiskPacksModel" (214 : Nat) "DiskPacksModel" "isKept" "Z") ∈ lw_all := lw_g (lw_at lw_m7 218 rfl) rfl
theorem q1728 : (Jvm.Cond.fieldLink "DiskPacksModel" (29 : Nat) "DiskPacksModel" "buffer" "[I") ∈ lw_all := lw_g (lw_at lw_m7 219 rfl) rfl
theorem q1729 : (Jvm.Cond.fieldLink "DiskPacksModel" (171 : Nat) "DiskPacksModel" "length" "I") ∈ lw_all := lw_g (lw_at lw_m7 220 rfl) rfl
theorem q1730 : (Jvm.Cond.fieldLink "DiskPacksModel" (32 : Nat) "DiskPacksModel" "thrown" "I") ∈ lw_all := lw_g (lw_at lw_m7 221 rfl) rfl
theorem q1731 : (Jvm.Cond.fieldLink "DiskPacksModel" (174 : Nat) "DiskPacksModel" "spot" "I") ∈ lw_all := lw_g (lw_at lw_m7 222 rfl) rfl
theorem q1732 : (Jvm.Cond.fieldLink "DiskPacksModel" (181 : Nat) "DiskPacksModel" "isWell" "Z") ∈ lw_all := lw_g (lw_at lw_m7 223 rfl) rfl
theorem q1733 : (Jvm.Cond.fieldLink "DiskPacksModel" (188 : Nat) "DiskPacksModel" "order" "I") ∈ lw_all := lw_g (lw_at lw_m7 224 rfl) rfl
theorem q1734 : (Jvm.Cond.fieldLink "DiskPacksModel" (191 : Nat) "DiskPacksModel" "first" "I") ∈ lw_all := lw_g (lw_at lw_m7 225 rfl) rfl
theorem q1735 : (Jvm.Cond.fieldLink "DiskPacksModel" (194 : Nat) "DiskPacksModel" "second" "I") ∈ lw_all := lw_g (lw_at lw_m7 226 rfl) rfl
theorem q1736 : (Jvm.Cond.fieldLink "DiskPacksModel" (197 : Nat) "DiskPacksModel" "third" "I") ∈ lw_all := lw_g (lw_at lw_m7 227 rfl) rfl
theorem q1737 : (Jvm.Cond.laysFinal "DiskPacksModel" "DiskPacksModel" "row" "[I") ∈ lw_all := lw_g (lw_at lw_m7 228 rfl) rfl
theorem q1738 : (Jvm.Cond.soleField "DiskPacksModel" "row") ∈ lw_all := lw_g (lw_at lw_m7 229 rfl) rfl
theorem q1739 : (Jvm.Cond.laysFinal "DiskPacksModel" "DiskPacksModel" "strength" "[F") ∈ lw_all := lw_g (lw_at lw_m7 230 rfl) rfl
theorem q1740 : (Jvm.Cond.soleField "DiskPacksModel" "strength") ∈ lw_all := lw_g (lw_at lw_m7 231 rfl) rfl
theorem q1741 : (Jvm.Cond.laysFinal "DiskPacksModel" "DiskPacksModel" "saved" "[I") ∈ lw_all := lw_g (lw_at lw_m7 232 rfl) rfl
theorem q1742 : (Jvm.Cond.soleField "DiskPacksModel" "saved") ∈ lw_all := lw_g (lw_at lw_m7 233 rfl) rfl
theorem q1743 : (Jvm.Cond.laysFinal "DiskPacksModel" "DiskPacksModel" "savedStrength" "[F") ∈ lw_all := lw_g (lw_at lw_m7 234 rfl) rfl
theorem q1744 : (Jvm.Cond.soleField "DiskPacksModel" "savedStrength") ∈ lw_all := lw_g (lw_at lw_m7 235 rfl) rfl
theorem q1745 : (Jvm.Cond.lays "DiskPacksModel" "DiskPacksModel" "savedMany" "I") ∈ lw_all := lw_g (lw_at lw_m7 236 rfl) rfl
theorem q1746 : (Jvm.Cond.soleField "DiskPacksModel" "savedMany") ∈ lw_all := lw_g (lw_at lw_m7 237 rfl) rfl
theorem q1747 : (Jvm.Cond.laysFinal "DiskPacksModel" "DiskPacksModel" "kept" "[I") ∈ lw_all := lw_g (lw_at lw_m7 238 rfl) rfl
theorem q1748 : (Jvm.Cond.soleField "DiskPacksModel" "kept") ∈ lw_all := lw_g (lw_at lw_m7 239 rfl) rfl
theorem q1749 : (Jvm.Cond.laysFinal "DiskPacksModel" "DiskPacksModel" "keptStrength" "[F") ∈ lw_all := lw_g (lw_at lw_m8 0 rfl) rfl
theorem q1750 : (Jvm.Cond.soleField "DiskPacksModel" "keptStrength") ∈ lw_all := lw_g (lw_at lw_m8 1 rfl) rfl
theorem q1751 : (Jvm.Cond.lays "DiskPacksModel" "DiskPacksModel" "isKept" "Z") ∈ lw_all := lw_g (lw_at lw_m8 2 rfl) rfl
theorem q1752 : (Jvm.Cond.soleField "DiskPacksModel" "isKept") ∈ lw_all := lw_g (lw_at lw_m8 3 rfl) rfl
theorem q1753 : (Jvm.Cond.laysFinal "DiskPacksModel" "DiskPacksModel" "buffer" "[I") ∈ lw_all := lw_g (lw_at lw_m8 4 rfl) rfl
theorem q1754 : (Jvm.Cond.soleField "DiskPacksModel" "buffer") ∈ lw_all := lw_g (lw_at lw_m8 5 rfl) rfl
theorem q1755 : (Jvm.Cond.lays "DiskPacksModel" "DiskPacksModel" "length" "I") ∈ lw_all := lw_g (lw_at lw_m8 6 rfl) rfl
theorem q1756 : (Jvm.Cond.soleField "DiskPacksModel" "length") ∈ lw_all := lw_g (lw_at lw_m8 7 rfl) rfl
theorem q1757 : (Jvm.Cond.lays "DiskPacksModel" "DiskPacksModel" "thrown" "I") ∈ lw_all := lw_g (lw_at lw_m8 8 rfl) rfl
theorem q1758 : (Jvm.Cond.soleField "DiskPacksModel" "thrown") ∈ lw_all := lw_g (lw_at lw_m8 9 rfl) rfl
theorem q1759 : (Jvm.Cond.lays "DiskPacksModel" "DiskPacksModel" "spot" "I") ∈ lw_all := lw_g (lw_at lw_m8 10 rfl) rfl
theorem q1760 : (Jvm.Cond.soleField "DiskPacksModel" "spot") ∈ lw_all := lw_g (lw_at lw_m8 11 rfl) rfl
theorem q1761 : (Jvm.Cond.lays "DiskPacksModel" "DiskPacksModel" "isWell" "Z") ∈ lw_all := lw_g (lw_at lw_m8 12 rfl) rfl
theorem q1762 : (Jvm.Cond.soleField "DiskPacksModel" "isWell") ∈ lw_all := lw_g (lw_at lw_m8 13 rfl) rfl
theorem q1763 : (Jvm.Cond.lays "DiskPacksModel" "DiskPacksModel" "order" "I") ∈ lw_all := lw_g (lw_at lw_m8 14 rfl) rfl
theorem q1764 : (Jvm.Cond.soleField "DiskPacksModel" "order") ∈ lw_all := lw_g (lw_at lw_m8 15 rfl) rfl
theorem q1765 : (Jvm.Cond.lays "DiskPacksModel" "DiskPacksModel" "first" "I") ∈ lw_all := lw_g (lw_at lw_m8 16 rfl) rfl
theorem q1766 : (Jvm.Cond.soleField "DiskPacksModel" "first") ∈ lw_all := lw_g (lw_at lw_m8 17 rfl) rfl
theorem q1767 : (Jvm.Cond.lays "DiskPacksModel" "DiskPacksModel" "second" "I") ∈ lw_all := lw_g (lw_at lw_m8 18 rfl) rfl
theorem q1768 : (Jvm.Cond.soleField "DiskPacksModel" "second") ∈ lw_all := lw_g (lw_at lw_m8 19 rfl) rfl
theorem q1769 : (Jvm.Cond.lays "DiskPacksModel" "DiskPacksModel" "third" "I") ∈ lw_all := lw_g (lw_at lw_m8 20 rfl) rfl
theorem q1770 : (Jvm.Cond.soleField "DiskPacksModel" "third") ∈ lw_all := lw_g (lw_at lw_m8 21 rfl) rfl
theorem q1771 : (Jvm.Cond.superclass "DiskPacksModel" "java/lang/Object") ∈ lw_all := lw_g (lw_at lw_m8 22 rfl) rfl
theorem q1773 : (Jvm.Cond.instanceMethod ({ cls := "DiskPacksModel", name := "thrown", desc := "()I" } : Jvm.MethodName)) ∈ lw_all := lw_g (lw_at lw_m8 24 rfl) rfl
theorem q1774 : (Jvm.Cond.selects "DiskPacksModel" ({ cls := "DiskPacksModel", name := "thrown", desc := "()I" } : Jvm.MethodName) ({ cls := "DiskPacksModel", name := "thrown", desc := "()I" } : Jvm.MethodName)) ∈ lw_all := lw_g (lw_at lw_m8 25 rfl) rfl
theorem q1775 : (Jvm.Cond.code ({ cls := "DiskPacksModel", name := "thrown", desc := "()I" } : Jvm.MethodName) prog_13_method_2_code (1 : Nat) (Option.some Jvm.ClassFile.FieldType.int)) ∈ lw_all := lw_g (lw_at lw_m8 26 rfl) rfl
theorem q1777 : (Jvm.Cond.instanceMethod ({ cls := "DiskPacksModel", name := "adjust", desc := "(III)I" } : Jvm.MethodName)) ∈ lw_all := lw_g (lw_at lw_m8 28 rfl) rfl
theorem q1778 : (Jvm.Cond.selects "DiskPacksModel" ({ cls := "DiskPacksModel", name := "adjust", desc := "(III)I" } : Jvm.MethodName) ({ cls := "DiskPacksModel", name := "adjust", desc := "(III)I" } : Jvm.MethodName)) ∈ lw_all := lw_g (lw_at lw_m8 29 rfl) rfl
theorem q1779 : (Jvm.Cond.code ({ cls := "DiskPacksModel", name := "adjust", desc := "(III)I" } : Jvm.MethodName) prog_13_method_21_code (4 : Nat) (Option.some Jvm.ClassFile.FieldType.int)) ∈ lw_all := lw_g (lw_at lw_m8 30 rfl) rfl
theorem q1780 : (Jvm.Cond.methodLink "DiskPacksModel" (71 : Nat) ({ cls := "DiskPacksModel", name := "isDrive", desc := "(I)Z" } : Jvm.MethodName)) ∈ lw_all := lw_g (lw_at lw_m8 31 rfl) rfl
theorem q1781 : (Jvm.Cond.static ({ cls := "DiskPacksModel", name := "isDrive", desc := "(I)Z" } : Jvm.MethodName)) ∈ lw_all := lw_g (lw_at lw_m8 32 rfl) rfl
theorem q1782 : (Jvm.Cond.code ({ cls := "DiskPacksModel", name := "isDrive", desc := "(I)Z" } : Jvm.MethodName) prog_13_method_6_code (1 : Nat) (Option.some Jvm.ClassFile.FieldType.boolean)) ∈ lw_all := lw_g (lw_at lw_m8 33 rfl) rfl
theorem q1783 : (Jvm.Cond.methodLink "DiskPacksModel" (36 : Nat) ({ cls := "DiskPacksModel", name := "in", desc := "(III)Z" } : Jvm.MethodName)) ∈ lw_all := lw_g (lw_at lw_m8 34 rfl) rfl
theorem q1784 : (Jvm.Cond.static ({ cls := "DiskPacksModel", name := "in", desc := "(III)Z" } : Jvm.MethodName)) ∈ lw_all := lw_g (lw_at lw_m8 35 rfl) rfl
theorem q1785 : (Jvm.Cond.code ({ cls := "DiskPacksModel", name := "in", desc := "(III)Z" } : Jvm.MethodName) prog_13_method_5_code (3 : Nat) (Option.some Jvm.ClassFile.FieldType.boolean)) ∈ lw_all := lw_g (lw_at lw_m8 36 rfl) rfl
theorem q1786 : (Jvm.Cond.methodLink "DiskPacksModel" (75 : Nat) ({ cls := "DiskPacksModel", name := "isHead", desc := "(I)Z" } : Jvm.MethodName)) ∈ lw_all := lw_g (lw_at lw_m8 37 rfl) rfl
theorem q1787 : (Jvm.Cond.static ({ cls := "DiskPacksModel", name := "isHead", desc := "(I)Z" } : Jvm.MethodName)) ∈ lw_all := lw_g (lw_at lw_m8 38 rfl) rfl
theorem q1788 : (Jvm.Cond.code ({ cls := "DiskPacksModel", name := "isHead", desc := "(I)Z" } : Jvm.MethodName) prog_13_method_7_code (1 : Nat) (Option.some Jvm.ClassFile.FieldType.boolean)) ∈ lw_all := lw_g (lw_at lw_m8 39 rfl) rfl
theorem q1789 : (Jvm.Cond.methodLink "DiskPacksModel" (78 : Nat) ({ cls := "DiskPacksModel", name := "fails", desc := "(I)I" } : Jvm.MethodName)) ∈ lw_all := lw_g (lw_at lw_m8 40 rfl) rfl
theorem q1790 : (Jvm.Cond.privateMethod ({ cls := "DiskPacksModel", name := "fails", desc := "(I)I" } : Jvm.MethodName)) ∈ lw_tbl := lw_at lw_m8 41 rfl
theorem q1791 : (Jvm.Cond.instanceMethod ({ cls := "DiskPacksModel", name := "fails", desc := "(I)I" } : Jvm.MethodName)) ∈ lw_all := lw_g (lw_at lw_m8 42 rfl) rfl
theorem q1792 : (Jvm.Cond.code ({ cls := "DiskPacksModel", name := "fails", desc := "(I)I" } : Jvm.MethodName) prog_13_method_3_code (2 : Nat) (Option.some Jvm.ClassFile.FieldType.int)) ∈ lw_all := lw_g (lw_at lw_m8 43 rfl) rfl
theorem q1793 : (Jvm.Cond.methodLink "DiskPacksModel" (40 : Nat) ({ cls := "DiskPacksModel", name := "head", desc := "(II)I" } : Jvm.MethodName)) ∈ lw_all := lw_g (lw_at lw_m8 44 rfl) rfl
theorem q1794 : (Jvm.Cond.static ({ cls := "DiskPacksModel", name := "head", desc := "(II)I" } : Jvm.MethodName)) ∈ lw_all := lw_g (lw_at lw_m8 45 rfl) rfl
theorem q1795 : (Jvm.Cond.code ({ cls := "DiskPacksModel", name := "head", desc := "(II)I" } : Jvm.MethodName) prog_13_method_11_code (2 : Nat) (Option.some Jvm.ClassFile.FieldType.int)) ∈ lw_all := lw_g (lw_at lw_m8 46 rfl) rfl
theorem q1796 : (Jvm.Cond.methodLink "DiskPacksModel" (81 : Nat) ({ cls := "DiskPacksModel", name := "sets", desc := "(II)I" } : Jvm.MethodName)) ∈ lw_all := lw_g (lw_at lw_m8 47 rfl) rfl
theorem q1797 : (Jvm.Cond.privateMethod ({ cls := "DiskPacksModel", name := "sets", desc := "(II)I" } : Jvm.MethodName)) ∈ lw_tbl := lw_at lw_m8 48 rfl
theorem q1798 : (Jvm.Cond.instanceMethod ({ cls := "DiskPacksModel", name := "sets", desc := "(II)I" } : Jvm.MethodName)) ∈ lw_all := lw_g (lw_at lw_m8 49 rfl) rfl
theorem q1799 : (Jvm.Cond.code ({ cls := "DiskPacksModel", name := "sets", desc := "(II)I" } : Jvm.MethodName) prog_13_method_20_code (4 : Nat) (Option.some Jvm.ClassFile.FieldType.int)) ∈ lw_all := lw_g (lw_at lw_m8 50 rfl) rfl
theorem q1800 : (Jvm.Cond.methodLink "DiskPacksModel" (68 : Nat) ({ cls := "DiskPacksModel", name := "records", desc := "()V" } : Jvm.MethodName)) ∈ lw_all := lw_g (lw_at lw_m8 51 rfl) rfl
theorem q1801 : (Jvm.Cond.privateMethod ({ cls := "DiskPacksModel", name := "records", desc := "()V" } : Jvm.MethodName)) ∈ lw_tbl := lw_at lw_m8 52 rfl
theorem q1802 : (Jvm.Cond.instanceMethod ({ cls := "DiskPacksModel", name := "records", desc := "()V" } : Jvm.MethodName)) ∈ lw_all := lw_g (lw_at lw_m8 53 rfl) rfl
theorem q1803 : (Jvm.Cond.code ({ cls := "DiskPacksModel", name := "records", desc := "()V" } : Jvm.MethodName) prog_13_method_19_code (2 : Nat) (Option.none : Option Jvm.ClassFile.FieldType)) ∈ lw_all := lw_g (lw_at lw_m8 54 rfl) rfl
theorem q1805 : (Jvm.Cond.instanceMethod ({ cls := "DiskPacksModel", name := "warm", desc := "(II)I" } : Jvm.MethodName)) ∈ lw_all := lw_g (lw_at lw_m8 56 rfl) rfl
theorem q1806 : (Jvm.Cond.selects "DiskPacksModel" ({ cls := "DiskPacksModel", name := "warm", desc := "(II)I" } : Jvm.MethodName) ({ cls := "DiskPacksModel", name := "warm", desc := "(II)I" } : Jvm.MethodName)) ∈ lw_all := lw_g (lw_at lw_m8 57 rfl) rfl
theorem q1807 : (Jvm.Cond.code ({ cls := "DiskPacksModel", name := "warm", desc := "(II)I" } : Jvm.MethodName) prog_13_method_22_code (3 : Nat) (Option.some Jvm.ClassFile.FieldType.int)) ∈ lw_all := lw_g (lw_at lw_m8 58 rfl) rfl
theorem q1809 : (Jvm.Cond.instanceMethod ({ cls := "DiskPacksModel", name := "setServo", desc := "(IZ)Z" } : Jvm.MethodName)) ∈ lw_all := lw_g (lw_at lw_m8 60 rfl) rfl
theorem q1810 : (Jvm.Cond.selects "DiskPacksModel" ({ cls := "DiskPacksModel", name := "setServo", desc := "(IZ)Z" } : Jvm.MethodName) ({ cls := "DiskPacksModel", name := "setServo", desc := "(IZ)Z" } : Jvm.MethodName)) ∈ lw_all := lw_g (lw_at lw_m8 61 rfl) rfl
theorem q1811 : (Jvm.Cond.code ({ cls := "DiskPacksModel", name := "setServo", desc := "(IZ)Z" } : Jvm.MethodName) prog_13_method_37_code (4 : Nat) (Option.some Jvm.ClassFile.FieldType.boolean)) ∈ lw_all := lw_g (lw_at lw_m8 62 rfl) rfl
theorem q1812 : (Jvm.Cond.methodLink "DiskPacksModel" (107 : Nat) ({ cls := "DiskPacksModel", name := "servoRefusal", desc := "(IZ)I" } : Jvm.MethodName)) ∈ lw_all := lw_g (lw_at lw_m8 63 rfl) rfl
theorem q1813 : (Jvm.Cond.privateMethod ({ cls := "DiskPacksModel", name := "servoRefusal", desc := "(IZ)I" } : Jvm.MethodName)) ∈ lw_tbl := lw_at lw_m8 64 rfl
theorem q1814 : (Jvm.Cond.instanceMethod ({ cls := "DiskPacksModel", name := "servoRefusal", desc := "(IZ)I" } : Jvm.MethodName)) ∈ lw_all := lw_g (lw_at lw_m8 65 rfl) rfl
theorem q1815 : (Jvm.Cond.code ({ cls := "DiskPacksModel", name := "servoRefusal", desc := "(IZ)I" } : Jvm.MethodName) prog_13_method_23_code (3 : Nat) (Option.some Jvm.ClassFile.FieldType.int)) ∈ lw_all := lw_g (lw_at lw_m8 66 rfl) rfl
theorem q1816 : (Jvm.Cond.methodLink "DiskPacksModel" (111 : Nat) ({ cls := "DiskPacksModel", name := "failsSo", desc := "(I)Z" } : Jvm.MethodName)) ∈ lw_all := lw_g (lw_at lw_m8 67 rfl) rfl
theorem q1817 : (Jvm.Cond.privateMethod ({ cls := "DiskPacksModel", name := "failsSo", desc := "(I)Z" } : Jvm.MethodName)) ∈ lw_tbl := lw_at lw_m8 68 rfl
theorem q1818 : (Jvm.Cond.instanceMethod ({ cls := "DiskPacksModel", name := "failsSo", desc := "(I)Z" } : Jvm.MethodName)) ∈ lw_all := lw_g (lw_at lw_m8 69 rfl) rfl
theorem q1819 : (Jvm.Cond.code ({ cls := "DiskPacksModel", name := "failsSo", desc := "(I)Z" } : Jvm.MethodName) prog_13_method_4_code (2 : Nat) (Option.some Jvm.ClassFile.FieldType.boolean)) ∈ lw_all := lw_g (lw_at lw_m8 70 rfl) rfl
theorem q1821 : (Jvm.Cond.instanceMethod ({ cls := "DiskPacksModel", name := "makePack", desc := "(I)I" } : Jvm.MethodName)) ∈ lw_all := lw_g (lw_at lw_m8 72 rfl) rfl
theorem q1822 : (Jvm.Cond.selects "DiskPacksModel" ({ cls := "DiskPacksModel", name := "makePack", desc := "(I)I" } : Jvm.MethodName) ({ cls := "DiskPacksModel", name := "makePack", desc := "(I)I" } : Jvm.MethodName)) ∈ lw_all := lw_g (lw_at lw_m8 73 rfl) rfl
theorem q1823 : (Jvm.Cond.code ({ cls := "DiskPacksModel", name := "makePack", desc := "(I)I" } : Jvm.MethodName) prog_13_method_38_code (2 : Nat) (Option.some Jvm.ClassFile.FieldType.int)) ∈ lw_all := lw_g (lw_at lw_m8 74 rfl) rfl
theorem q1825 : (Jvm.Cond.instanceMethod ({ cls := "DiskPacksModel", name := "mount", desc := "(II)I" } : Jvm.MethodName)) ∈ lw_all := lw_g (lw_at lw_m8 76 rfl) rfl
theorem q1826 : (Jvm.Cond.selects "DiskPacksModel" ({ cls := "DiskPacksModel", name := "mount", desc := "(II)I" } : Jvm.MethodName) ({ cls := "DiskPacksModel", name := "mount", desc := "(II)I" } : Jvm.MethodName)) ∈ lw_all := lw_g (lw_at lw_m8 77 rfl) rfl
theorem q1827 : (Jvm.Cond.code ({ cls := "DiskPacksModel", name := "mount", desc := "(II)I" } : Jvm.MethodName) prog_13_method_39_code (5 : Nat) (Option.some Jvm.ClassFile.FieldType.int)) ∈ lw_all := lw_g (lw_at lw_m8 78 rfl) rfl
theorem q1828 : (Jvm.Cond.methodLink "DiskPacksModel" (114 : Nat) ({ cls := "DiskPacksModel", name := "mountRefusal", desc := "(II)I" } : Jvm.MethodName)) ∈ lw_all := lw_g (lw_at lw_m8 79 rfl) rfl
theorem q1829 : (Jvm.Cond.privateMethod ({ cls := "DiskPacksModel", name := "mountRefusal", desc := "(II)I" } : Jvm.MethodName)) ∈ lw_tbl := lw_at lw_m8 80 rfl
theorem q1830 : (Jvm.Cond.instanceMethod ({ cls := "DiskPacksModel", name := "mountRefusal", desc := "(II)I" } : Jvm.MethodName)) ∈ lw_all := lw_g (lw_at lw_m8 81 rfl) rfl
theorem q1831 : (Jvm.Cond.code ({ cls := "DiskPacksModel", name := "mountRefusal", desc := "(II)I" } : Jvm.MethodName) prog_13_method_24_code (3 : Nat) (Option.some Jvm.ClassFile.FieldType.int)) ∈ lw_all := lw_g (lw_at lw_m8 82 rfl) rfl
theorem q1832 : (Jvm.Cond.methodLink "DiskPacksModel" (84 : Nat) ({ cls := "DiskPacksModel", name := "isPack", desc := "(I)Z" } : Jvm.MethodName)) ∈ lw_all := lw_g (lw_at lw_m8 83 rfl) rfl
theorem q1833 : (Jvm.Cond.privateMethod ({ cls := "DiskPacksModel", name := "isPack", desc := "(I)Z" } : Jvm.MethodName)) ∈ lw_tbl := lw_at lw_m8 84 rfl
theorem q1834 : (Jvm.Cond.instanceMethod ({ cls := "DiskPacksModel", name := "isPack", desc := "(I)Z" } : Jvm.MethodName)) ∈ lw_all := lw_g (lw_at lw_m8 85 rfl) rfl
theorem q1835 : (Jvm.Cond.code ({ cls := "DiskPacksModel", name := "isPack", desc := "(I)Z" } : Jvm.MethodName) prog_13_method_10_code (2 : Nat) (Option.some Jvm.ClassFile.FieldType.boolean)) ∈ lw_all := lw_g (lw_at lw_m8 86 rfl) rfl
theorem q1836 : (Jvm.Cond.methodLink "DiskPacksModel" (87 : Nat) ({ cls := "DiskPacksModel", name := "driveWith", desc := "(I)I" } : Jvm.MethodName)) ∈ lw_all := lw_g (lw_at lw_m8 87 rfl) rfl
theorem q1837 : (Jvm.Cond.privateMethod ({ cls := "DiskPacksModel", name := "driveWith", desc := "(I)I" } : Jvm.MethodName)) ∈ lw_tbl := lw_at lw_m8 88 rfl
theorem q1838 : (Jvm.Cond.instanceMethod ({ cls := "DiskPacksModel", name := "driveWith", desc := "(I)I" } : Jvm.MethodName)) ∈ lw_all := lw_g (lw_at lw_m8 89 rfl) rfl
theorem q1839 : (Jvm.Cond.code ({ cls := "DiskPacksModel", name := "driveWith", desc := "(I)I" } : Jvm.MethodName) prog_13_method_14_code (3 : Nat) (Option.some Jvm.ClassFile.FieldType.int)) ∈ lw_all := lw_g (lw_at lw_m8 90 rfl) rfl
theorem q1840 : (Jvm.Cond.methodLink "DiskPacksModel" (44 : Nat) ({ cls := "DiskPacksModel", name := "learnedAt", desc := "(II)I" } : Jvm.MethodName)) ∈ lw_all := lw_g (lw_at lw_m8 91 rfl) rfl
theorem q1841 : (Jvm.Cond.privateMethod ({ cls := "DiskPacksModel", name := "learnedAt", desc := "(II)I" } : Jvm.MethodName)) ∈ lw_tbl := lw_at lw_m8 92 rfl
theorem q1842 : (Jvm.Cond.instanceMethod ({ cls := "DiskPacksModel", name := "learnedAt", desc := "(II)I" } : Jvm.MethodName)) ∈ lw_all := lw_g (lw_at lw_m8 93 rfl) rfl
theorem q1843 : (Jvm.Cond.code ({ cls := "DiskPacksModel", name := "learnedAt", desc := "(II)I" } : Jvm.MethodName) prog_13_method_13_code (3 : Nat) (Option.some Jvm.ClassFile.FieldType.int)) ∈ lw_all := lw_g (lw_at lw_m8 94 rfl) rfl
theorem q1845 : (Jvm.Cond.instanceMethod ({ cls := "DiskPacksModel", name := "unmount", desc := "(I)I" } : Jvm.MethodName)) ∈ lw_all := lw_g (lw_at lw_m8 96 rfl) rfl
theorem q1846 : (Jvm.Cond.selects "DiskPacksModel" ({ cls := "DiskPacksModel", name := "unmount", desc := "(I)I" } : Jvm.MethodName) ({ cls := "DiskPacksModel", name := "unmount", desc := "(I)I" } : Jvm.MethodName)) ∈ lw_all := lw_g (lw_at lw_m8 97 rfl) rfl
theorem q1847 : (Jvm.Cond.code ({ cls := "DiskPacksModel", name := "unmount", desc := "(I)I" } : Jvm.MethodName) prog_13_method_40_code (3 : Nat) (Option.some Jvm.ClassFile.FieldType.int)) ∈ lw_all := lw_g (lw_at lw_m8 98 rfl) rfl
theorem q1848 : (Jvm.Cond.methodLink "DiskPacksModel" (93 : Nat) ({ cls := "DiskPacksModel", name := "packRefusal", desc := "(I)I" } : Jvm.MethodName)) ∈ lw_all := lw_g (lw_at lw_m8 99 rfl) rfl
theorem q1849 : (Jvm.Cond.privateMethod ({ cls := "DiskPacksModel", name := "packRefusal", desc := "(I)I" } : Jvm.MethodName)) ∈ lw_tbl := lw_at lw_m8 100 rfl
theorem q1850 : (Jvm.Cond.instanceMethod ({ cls := "DiskPacksModel", name := "packRefusal", desc := "(I)I" } : Jvm.MethodName)) ∈ lw_all := lw_g (lw_at lw_m8 101 rfl) rfl
theorem q1851 : (Jvm.Cond.code ({ cls := "DiskPacksModel", name := "packRefusal", desc := "(I)I" } : Jvm.MethodName) prog_13_method_25_code (2 : Nat) (Option.some Jvm.ClassFile.FieldType.int)) ∈ lw_all := lw_g (lw_at lw_m8 102 rfl) rfl
theorem q1852 : (Jvm.Cond.methodLink "DiskPacksModel" (117 : Nat) ({ cls := "DiskPacksModel", name := "unmounts", desc := "(I)I" } : Jvm.MethodName)) ∈ lw_all := lw_g (lw_at lw_m8 103 rfl) rfl
theorem q1853 : (Jvm.Cond.privateMethod ({ cls := "DiskPacksModel", name := "unmounts", desc := "(I)I" } : Jvm.MethodName)) ∈ lw_tbl := lw_at lw_m8 104 rfl
theorem q1854 : (Jvm.Cond.instanceMethod ({ cls := "DiskPacksModel", name := "unmounts", desc := "(I)I" } : Jvm.MethodName)) ∈ lw_all := lw_g (lw_at lw_m8 105 rfl) rfl
theorem q1855 : (Jvm.Cond.code ({ cls := "DiskPacksModel", name := "unmounts", desc := "(I)I" } : Jvm.MethodName) prog_13_method_30_code (3 : Nat) (Option.some Jvm.ClassFile.FieldType.int)) ∈ lw_all := lw_g (lw_at lw_m8 106 rfl) rfl
theorem q1857 : (Jvm.Cond.instanceMethod ({ cls := "DiskPacksModel", name := "seek", desc := "(II)I" } : Jvm.MethodName)) ∈ lw_all := lw_g (lw_at lw_m8 108 rfl) rfl
theorem q1858 : (Jvm.Cond.selects "DiskPacksModel" ({ cls := "DiskPacksModel", name := "seek", desc := "(II)I" } : Jvm.MethodName) ({ cls := "DiskPacksModel", name := "seek", desc := "(II)I" } : Jvm.MethodName)) ∈ lw_all := lw_g (lw_at lw_m8 109 rfl) rfl
theorem q1859 : (Jvm.Cond.code ({ cls := "DiskPacksModel", name := "seek", desc := "(II)I" } : Jvm.MethodName) prog_13_method_41_code (4 : Nat) (Option.some Jvm.ClassFile.FieldType.int)) ∈ lw_all := lw_g (lw_at lw_m8 110 rfl) rfl
theorem q1860 : (Jvm.Cond.methodLink "DiskPacksModel" (120 : Nat) ({ cls := "DiskPacksModel", name := "seekRefusal", desc := "(II)I" } : Jvm.MethodName)) ∈ lw_all := lw_g (lw_at lw_m8 111 rfl) rfl
theorem q1861 : (Jvm.Cond.privateMethod ({ cls := "DiskPacksModel", name := "seekRefusal", desc := "(II)I" } : Jvm.MethodName)) ∈ lw_tbl := lw_at lw_m8 112 rfl
theorem q1862 : (Jvm.Cond.instanceMethod ({ cls := "DiskPacksModel", name := "seekRefusal", desc := "(II)I" } : Jvm.MethodName)) ∈ lw_all := lw_g (lw_at lw_m8 113 rfl) rfl
theorem q1863 : (Jvm.Cond.code ({ cls := "DiskPacksModel", name := "seekRefusal", desc := "(II)I" } : Jvm.MethodName) prog_13_method_26_code (3 : Nat) (Option.some Jvm.ClassFile.FieldType.int)) ∈ lw_all := lw_g (lw_at lw_m8 114 rfl) rfl
theorem q1864 : (Jvm.Cond.methodLink "DiskPacksModel" (90 : Nat) ({ cls := "DiskPacksModel", name := "isCylinder", desc := "(I)Z" } : Jvm.MethodName)) ∈ lw_all := lw_g (lw_at lw_m8 115 rfl) rfl
theorem q1865 : (Jvm.Cond.static ({ cls := "DiskPacksModel", name := "isCylinder", desc := "(I)Z" } : Jvm.MethodName)) ∈ lw_all := lw_g (lw_at lw_m8 116 rfl) rfl
theorem q1866 : (Jvm.Cond.code ({ cls := "DiskPacksModel", name := "isCylinder", desc := "(I)Z" } : Jvm.MethodName) prog_13_method_9_code (1 : Nat) (Option.some Jvm.ClassFile.FieldType.boolean)) ∈ lw_all := lw_g (lw_at lw_m8 117 rfl) rfl
theorem q1867 : (Jvm.Cond.methodLink "DiskPacksModel" (123 : Nat) ({ cls := "DiskPacksModel", name := "seeks", desc := "(II)I" } : Jvm.MethodName)) ∈ lw_all := lw_g (lw_at lw_m8 118 rfl) rfl
theorem q1868 : (Jvm.Cond.privateMethod ({ cls := "DiskPacksModel", name := "seeks", desc := "(II)I" } : Jvm.MethodName)) ∈ lw_tbl := lw_at lw_m8 119 rfl
theorem q1869 : (Jvm.Cond.instanceMethod ({ cls := "DiskPacksModel", name := "seeks", desc := "(II)I" } : Jvm.MethodName)) ∈ lw_all := lw_g (lw_at lw_m8 120 rfl) rfl
theorem q1870 : (Jvm.Cond.code ({ cls := "DiskPacksModel", name := "seeks", desc := "(II)I" } : Jvm.MethodName) prog_13_method_31_code (4 : Nat) (Option.some Jvm.ClassFile.FieldType.int)) ∈ lw_all := lw_g (lw_at lw_m8 121 rfl) rfl
theorem q1872 : (Jvm.Cond.instanceMethod ({ cls := "DiskPacksModel", name := "setTries", desc := "(I)I" } : Jvm.MethodName)) ∈ lw_all := lw_g (lw_at lw_m8 123 rfl) rfl
theorem q1873 : (Jvm.Cond.selects "DiskPacksModel" ({ cls := "DiskPacksModel", name := "setTries", desc := "(I)I" } : Jvm.MethodName) ({ cls := "DiskPacksModel", name := "setTries", desc := "(I)I" } : Jvm.MethodName)) ∈ lw_all := lw_g (lw_at lw_m8 124 rfl) rfl
theorem q1874 : (Jvm.Cond.code ({ cls := "DiskPacksModel", name := "setTries", desc := "(I)I" } : Jvm.MethodName) prog_13_method_42_code (2 : Nat) (Option.some Jvm.ClassFile.FieldType.int)) ∈ lw_all := lw_g (lw_at lw_m8 125 rfl) rfl
theorem q1876 : (Jvm.Cond.instanceMethod ({ cls := "DiskPacksModel", name := "forget", desc := "(II)I" } : Jvm.MethodName)) ∈ lw_all := lw_g (lw_at lw_m8 127 rfl) rfl
theorem q1877 : (Jvm.Cond.selects "DiskPacksModel" ({ cls := "DiskPacksModel", name := "forget", desc := "(II)I" } : Jvm.MethodName) ({ cls := "DiskPacksModel", name := "forget", desc := "(II)I" } : Jvm.MethodName)) ∈ lw_all := lw_g (lw_at lw_m8 128 rfl) rfl
theorem q1878 : (Jvm.Cond.code ({ cls := "DiskPacksModel", name := "forget", desc := "(II)I" } : Jvm.MethodName) prog_13_method_43_code (3 : Nat) (Option.some Jvm.ClassFile.FieldType.int)) ∈ lw_all := lw_g (lw_at lw_m8 129 rfl) rfl
theorem q1880 : (Jvm.Cond.instanceMethod ({ cls := "DiskPacksModel", name := "write", desc := "(III)I" } : Jvm.MethodName)) ∈ lw_all := lw_g (lw_at lw_m8 131 rfl) rfl
theorem q1881 : (Jvm.Cond.selects "DiskPacksModel" ({ cls := "DiskPacksModel", name := "write", desc := "(III)I" } : Jvm.MethodName) ({ cls := "DiskPacksModel", name := "write", desc := "(III)I" } : Jvm.MethodName)) ∈ lw_all := lw_g (lw_at lw_m8 132 rfl) rfl
theorem q1882 : (Jvm.Cond.code ({ cls := "DiskPacksModel", name := "write", desc := "(III)I" } : Jvm.MethodName) prog_13_method_44_code (5 : Nat) (Option.some Jvm.ClassFile.FieldType.int)) ∈ lw_all := lw_g (lw_at lw_m8 133 rfl) rfl
theorem q1883 : (Jvm.Cond.methodLink "DiskPacksModel" (126 : Nat) ({ cls := "DiskPacksModel", name := "writeRefusal", desc := "(III)I" } : Jvm.MethodName)) ∈ lw_all := lw_g (lw_at lw_m8 134 rfl) rfl
theorem q1884 : (Jvm.Cond.privateMethod ({ cls := "DiskPacksModel", name := "writeRefusal", desc := "(III)I" } : Jvm.MethodName)) ∈ lw_tbl := lw_at lw_m8 135 rfl
theorem q1885 : (Jvm.Cond.instanceMethod ({ cls := "DiskPacksModel", name := "writeRefusal", desc := "(III)I" } : Jvm.MethodName)) ∈ lw_all := lw_g (lw_at lw_m8 136 rfl) rfl
theorem q1886 : (Jvm.Cond.code ({ cls := "DiskPacksModel", name := "writeRefusal", desc := "(III)I" } : Jvm.MethodName) prog_13_method_28_code (4 : Nat) (Option.some Jvm.ClassFile.FieldType.int)) ∈ lw_all := lw_g (lw_at lw_m8 137 rfl) rfl
theorem q1887 : (Jvm.Cond.methodLink "DiskPacksModel" (96 : Nat) ({ cls := "DiskPacksModel", name := "isDataHead", desc := "(I)Z" } : Jvm.MethodName)) ∈ lw_all := lw_g (lw_at lw_m8 138 rfl) rfl
theorem q1888 : (Jvm.Cond.static ({ cls := "DiskPacksModel", name := "isDataHead", desc := "(I)Z" } : Jvm.MethodName)) ∈ lw_all := lw_g (lw_at lw_m8 139 rfl) rfl
theorem q1889 : (Jvm.Cond.code ({ cls := "DiskPacksModel", name := "isDataHead", desc := "(I)Z" } : Jvm.MethodName) prog_13_method_8_code (1 : Nat) (Option.some Jvm.ClassFile.FieldType.boolean)) ∈ lw_all := lw_g (lw_at lw_m8 140 rfl) rfl
theorem q1890 : (Jvm.Cond.methodLink "DiskPacksModel" (129 : Nat) ({ cls := "DiskPacksModel", name := "writes", desc := "(III)I" } : Jvm.MethodName)) ∈ lw_all := lw_g (lw_at lw_m8 141 rfl) rfl
theorem q1891 : (Jvm.Cond.privateMethod ({ cls := "DiskPacksModel", name := "writes", desc := "(III)I" } : Jvm.MethodName)) ∈ lw_tbl := lw_at lw_m8 142 rfl
theorem q1892 : (Jvm.Cond.instanceMethod ({ cls := "DiskPacksModel", name := "writes", desc := "(III)I" } : Jvm.MethodName)) ∈ lw_all := lw_g (lw_at lw_m8 143 rfl) rfl
theorem q1893 : (Jvm.Cond.code ({ cls := "DiskPacksModel", name := "writes", desc := "(III)I" } : Jvm.MethodName) prog_13_method_33_code (8 : Nat) (Option.some Jvm.ClassFile.FieldType.int)) ∈ lw_all := lw_g (lw_at lw_m8 144 rfl) rfl
theorem q1894 : (Jvm.Cond.methodLink "DiskPacksModel" (47 : Nat) ({ cls := "DiskPacksModel", name := "track", desc := "(III)I" } : Jvm.MethodName)) ∈ lw_all := lw_g (lw_at lw_m8 145 rfl) rfl
theorem q1895 : (Jvm.Cond.static ({ cls := "DiskPacksModel", name := "track", desc := "(III)I" } : Jvm.MethodName)) ∈ lw_all := lw_g (lw_at lw_m8 146 rfl) rfl
theorem q1896 : (Jvm.Cond.code ({ cls := "DiskPacksModel", name := "track", desc := "(III)I" } : Jvm.MethodName) prog_13_method_12_code (3 : Nat) (Option.some Jvm.ClassFile.FieldType.int)) ∈ lw_all := lw_g (lw_at lw_m8 147 rfl) rfl
theorem q1897 : (Jvm.Cond.methodLink "DiskPacksModel" (51 : Nat) ({ cls := "DiskPacksModel", name := "place", desc := "(IIII)I" } : Jvm.MethodName)) ∈ lw_all := lw_g (lw_at lw_m8 148 rfl) rfl
theorem q1898 : (Jvm.Cond.privateMethod ({ cls := "DiskPacksModel", name := "place", desc := "(IIII)I" } : Jvm.MethodName)) ∈ lw_tbl := lw_at lw_m8 149 rfl
theorem q1899 : (Jvm.Cond.instanceMethod ({ cls := "DiskPacksModel", name := "place", desc := "(IIII)I" } : Jvm.MethodName)) ∈ lw_all := lw_g (lw_at lw_m8 150 rfl) rfl
theorem q1900 : (Jvm.Cond.code ({ cls := "DiskPacksModel", name := "place", desc := "(IIII)I" } : Jvm.MethodName) prog_13_method_15_code (6 : Nat) (Option.some Jvm.ClassFile.FieldType.int)) ∈ lw_all := lw_g (lw_at lw_m8 151 rfl) rfl
theorem q1901 : (Jvm.Cond.constantFloat "DiskPacksModel" (64 : Nat) (1056964608 : UInt32)) ∈ lw_all := lw_g (lw_at lw_m8 152 rfl) rfl
theorem q1902 : (Jvm.Cond.constantFloat "DiskPacksModel" (99 : Nat) (1061158912 : UInt32)) ∈ lw_all := lw_g (lw_at lw_m8 153 rfl) rfl
theorem q1903 : (Jvm.Cond.methodLink "DiskPacksModel" (100 : Nat) ({ cls := "DiskPacksModel", name := "rubs", desc := "(II)V" } : Jvm.MethodName)) ∈ lw_all := lw_g (lw_at lw_m8 154 rfl) rfl
theorem q1904 : (Jvm.Cond.privateMethod ({ cls := "DiskPacksModel", name := "rubs", desc := "(II)V" } : Jvm.MethodName)) ∈ lw_tbl := lw_at lw_m8 155 rfl
theorem q1905 : (Jvm.Cond.instanceMethod ({ cls := "DiskPacksModel", name := "rubs", desc := "(II)V" } : Jvm.MethodName)) ∈ lw_all := lw_g (lw_at lw_m8 156 rfl) rfl
theorem q1906 : (Jvm.Cond.code ({ cls := "DiskPacksModel", name := "rubs", desc := "(II)V" } : Jvm.MethodName) prog_13_method_32_code (5 : Nat) (Option.none : Option Jvm.ClassFile.FieldType)) ∈ lw_all := lw_g (lw_at lw_m8 157 rfl) rfl
theorem q1908 : (Jvm.Cond.instanceMethod ({ cls := "DiskPacksModel", name := "read", desc := "(II)I" } : Jvm.MethodName)) ∈ lw_all := lw_g (lw_at lw_m8 159 rfl) rfl
theorem q1909 : (Jvm.Cond.selects "DiskPacksModel" ({ cls := "DiskPacksModel", name := "read", desc := "(II)I" } : Jvm.MethodName) ({ cls := "DiskPacksModel", name := "read", desc := "(II)I" } : Jvm.MethodName)) ∈ lw_all := lw_g (lw_at lw_m8 160 rfl) rfl
theorem q1910 : (Jvm.Cond.code ({ cls := "DiskPacksModel", name := "read", desc := "(II)I" } : Jvm.MethodName) prog_13_method_45_code (4 : Nat) (Option.some Jvm.ClassFile.FieldType.int)) ∈ lw_all := lw_g (lw_at lw_m8 161 rfl) rfl
theorem q1911 : (Jvm.Cond.methodLink "DiskPacksModel" (132 : Nat) ({ cls := "DiskPacksModel", name := "readRefusal", desc := "(II)I" } : Jvm.MethodName)) ∈ lw_all := lw_g (lw_at lw_m8 162 rfl) rfl
theorem q1912 : (Jvm.Cond.privateMethod ({ cls := "DiskPacksModel", name := "readRefusal", desc := "(II)I" } : Jvm.MethodName)) ∈ lw_tbl := lw_at lw_m8 163 rfl
theorem q1913 : (Jvm.Cond.instanceMethod ({ cls := "DiskPacksModel", name := "readRefusal", desc := "(II)I" } : Jvm.MethodName)) ∈ lw_all := lw_g (lw_at lw_m8 164 rfl) rfl
theorem q1914 : (Jvm.Cond.code ({ cls := "DiskPacksModel", name := "readRefusal", desc := "(II)I" } : Jvm.MethodName) prog_13_method_27_code (3 : Nat) (Option.some Jvm.ClassFile.FieldType.int)) ∈ lw_all := lw_g (lw_at lw_m8 165 rfl) rfl
theorem q1915 : (Jvm.Cond.methodLink "DiskPacksModel" (135 : Nat) ({ cls := "DiskPacksModel", name := "readsNow", desc := "(II)I" } : Jvm.MethodName)) ∈ lw_all := lw_g (lw_at lw_m8 166 rfl) rfl
theorem q1916 : (Jvm.Cond.privateMethod ({ cls := "DiskPacksModel", name := "readsNow", desc := "(II)I" } : Jvm.MethodName)) ∈ lw_tbl := lw_at lw_m8 167 rfl
theorem q1917 : (Jvm.Cond.instanceMethod ({ cls := "DiskPacksModel", name := "readsNow", desc := "(II)I" } : Jvm.MethodName)) ∈ lw_all := lw_g (lw_at lw_m8 168 rfl) rfl
theorem q1918 : (Jvm.Cond.code ({ cls := "DiskPacksModel", name := "readsNow", desc := "(II)I" } : Jvm.MethodName) prog_13_method_34_code (8 : Nat) (Option.some Jvm.ClassFile.FieldType.int)) ∈ lw_all := lw_g (lw_at lw_m8 169 rfl) rfl
theorem q1919 : (Jvm.Cond.methodLink "DiskPacksModel" (104 : Nat) ({ cls := "DiskPacksModel", name := "retries", desc := "(IIII)I" } : Jvm.MethodName)) ∈ lw_all := lw_g (lw_at lw_m8 170 rfl) rfl
theorem q1920 : (Jvm.Cond.privateMethod ({ cls := "DiskPacksModel", name := "retries", desc := "(IIII)I" } : Jvm.MethodName)) ∈ lw_tbl := lw_at lw_m8 171 rfl
theorem q1921 : (Jvm.Cond.instanceMethod ({ cls := "DiskPacksModel", name := "retries", desc := "(IIII)I" } : Jvm.MethodName)) ∈ lw_all := lw_g (lw_at lw_m8 172 rfl) rfl
theorem q1922 : (Jvm.Cond.code ({ cls := "DiskPacksModel", name := "retries", desc := "(IIII)I" } : Jvm.MethodName) prog_13_method_18_code (6 : Nat) (Option.some Jvm.ClassFile.FieldType.int)) ∈ lw_all := lw_g (lw_at lw_m8 173 rfl) rfl
theorem q1923 : (Jvm.Cond.methodLink "DiskPacksModel" (56 : Nat) ({ cls := "DiskPacksModel", name := "tried", desc := "(I)I" } : Jvm.MethodName)) ∈ lw_all := lw_g (lw_at lw_m8 174 rfl) rfl
theorem q1924 : (Jvm.Cond.static ({ cls := "DiskPacksModel", name := "tried", desc := "(I)I" } : Jvm.MethodName)) ∈ lw_all := lw_g (lw_at lw_m8 175 rfl) rfl
theorem q1925 : (Jvm.Cond.code ({ cls := "DiskPacksModel", name := "tried", desc := "(I)I" } : Jvm.MethodName) prog_13_method_17_code (1 : Nat) (Option.some Jvm.ClassFile.FieldType.int)) ∈ lw_all := lw_g (lw_at lw_m8 176 rfl) rfl
theorem q1926 : (Jvm.Cond.methodLink "DiskPacksModel" (60 : Nat) ({ cls := "DiskPacksModel", name := "signalOf", desc := "(IIIII)F" } : Jvm.MethodName)) ∈ lw_all := lw_g (lw_at lw_m8 177 rfl) rfl
theorem q1927 : (Jvm.Cond.privateMethod ({ cls := "DiskPacksModel", name := "signalOf", desc := "(IIIII)F" } : Jvm.MethodName)) ∈ lw_tbl := lw_at lw_m8 178 rfl
theorem q1928 : (Jvm.Cond.instanceMethod ({ cls := "DiskPacksModel", name := "signalOf", desc := "(IIIII)F" } : Jvm.MethodName)) ∈ lw_all := lw_g (lw_at lw_m8 179 rfl) rfl
theorem q1929 : (Jvm.Cond.code ({ cls := "DiskPacksModel", name := "signalOf", desc := "(IIIII)F" } : Jvm.MethodName) prog_13_method_16_code (9 : Nat) (Option.some Jvm.ClassFile.FieldType.float)) ∈ lw_all := lw_g (lw_at lw_m8 180 rfl) rfl
theorem q1930 : (Jvm.Cond.constantFloat "DiskPacksModel" (55 : Nat) (1101004800 : UInt32)) ∈ lw_all := lw_g (lw_at lw_m8 181 rfl) rfl
theorem q1932 : (Jvm.Cond.instanceMethod ({ cls := "DiskPacksModel", name := "strike", desc := "(II)Z" } : Jvm.MethodName)) ∈ lw_all := lw_g (lw_at lw_m8 183 rfl) rfl
theorem q1933 : (Jvm.Cond.selects "DiskPacksModel" ({ cls := "DiskPacksModel", name := "strike", desc := "(II)Z" } : Jvm.MethodName) ({ cls := "DiskPacksModel", name := "strike", desc := "(II)Z" } : Jvm.MethodName)) ∈ lw_all := lw_g (lw_at lw_m8 184 rfl) rfl
theorem q1934 : (Jvm.Cond.code ({ cls := "DiskPacksModel", name := "strike", desc := "(II)Z" } : Jvm.MethodName) prog_13_method_46_code (4 : Nat) (Option.some Jvm.ClassFile.FieldType.boolean)) ∈ lw_all := lw_g (lw_at lw_m8 185 rfl) rfl
theorem q1936 : (Jvm.Cond.instanceMethod ({ cls := "DiskPacksModel", name := "mend", desc := "(II)I" } : Jvm.MethodName)) ∈ lw_all := lw_g (lw_at lw_m8 187 rfl) rfl
theorem q1937 : (Jvm.Cond.selects "DiskPacksModel" ({ cls := "DiskPacksModel", name := "mend", desc := "(II)I" } : Jvm.MethodName) ({ cls := "DiskPacksModel", name := "mend", desc := "(II)I" } : Jvm.MethodName)) ∈ lw_all := lw_g (lw_at lw_m8 188 rfl) rfl
theorem q1938 : (Jvm.Cond.code ({ cls := "DiskPacksModel", name := "mend", desc := "(II)I" } : Jvm.MethodName) prog_13_method_47_code (3 : Nat) (Option.some Jvm.ClassFile.FieldType.int)) ∈ lw_all := lw_g (lw_at lw_m8 189 rfl) rfl
theorem q1939 : (Jvm.Cond.methodLink "DiskPacksModel" (138 : Nat) ({ cls := "DiskPacksModel", name := "mends", desc := "(II)I" } : Jvm.MethodName)) ∈ lw_all := lw_g (lw_at lw_m8 190 rfl) rfl
theorem q1940 : (Jvm.Cond.privateMethod ({ cls := "DiskPacksModel", name := "mends", desc := "(II)I" } : Jvm.MethodName)) ∈ lw_tbl := lw_at lw_m8 191 rfl
theorem q1941 : (Jvm.Cond.instanceMethod ({ cls := "DiskPacksModel", name := "mends", desc := "(II)I" } : Jvm.MethodName)) ∈ lw_all := lw_g (lw_at lw_m8 192 rfl) rfl
theorem q1942 : (Jvm.Cond.code ({ cls := "DiskPacksModel", name := "mends", desc := "(II)I" } : Jvm.MethodName) prog_13_method_35_code (5 : Nat) (Option.some Jvm.ClassFile.FieldType.int)) ∈ lw_all := lw_g (lw_at lw_m8 193 rfl) rfl
theorem q1944 : (Jvm.Cond.instanceMethod ({ cls := "DiskPacksModel", name := "polish", desc := "(I)I" } : Jvm.MethodName)) ∈ lw_all := lw_g (lw_at lw_m8 195 rfl) rfl
theorem q1945 : (Jvm.Cond.selects "DiskPacksModel" ({ cls := "DiskPacksModel", name := "polish", desc := "(I)I" } : Jvm.MethodName) ({ cls := "DiskPacksModel", name := "polish", desc := "(I)I" } : Jvm.MethodName)) ∈ lw_all := lw_g (lw_at lw_m8 196 rfl) rfl
theorem q1946 : (Jvm.Cond.code ({ cls := "DiskPacksModel", name := "polish", desc := "(I)I" } : Jvm.MethodName) prog_13_method_48_code (3 : Nat) (Option.some Jvm.ClassFile.FieldType.int)) ∈ lw_all := lw_g (lw_at lw_m8 197 rfl) rfl
theorem q1947 : (Jvm.Cond.methodLink "DiskPacksModel" (141 : Nat) ({ cls := "DiskPacksModel", name := "polishRefusal", desc := "(I)I" } : Jvm.MethodName)) ∈ lw_all := lw_g (lw_at lw_m8 198 rfl) rfl
theorem q1948 : (Jvm.Cond.privateMethod ({ cls := "DiskPacksModel", name := "polishRefusal", desc := "(I)I" } : Jvm.MethodName)) ∈ lw_tbl := lw_at lw_m8 199 rfl
theorem q1949 : (Jvm.Cond.instanceMethod ({ cls := "DiskPacksModel", name := "polishRefusal", desc := "(I)I" } : Jvm.MethodName)) ∈ lw_all := lw_g (lw_at lw_m8 200 rfl) rfl
theorem q1950 : (Jvm.Cond.code ({ cls := "DiskPacksModel", name := "polishRefusal", desc := "(I)I" } : Jvm.MethodName) prog_13_method_29_code (2 : Nat) (Option.some Jvm.ClassFile.FieldType.int)) ∈ lw_all := lw_g (lw_at lw_m8 201 rfl) rfl
theorem q1951 : (Jvm.Cond.methodLink "DiskPacksModel" (144 : Nat) ({ cls := "DiskPacksModel", name := "polishes", desc := "(I)I" } : Jvm.MethodName)) ∈ lw_all := lw_g (lw_at lw_m8 202 rfl) rfl
theorem q1952 : (Jvm.Cond.privateMethod ({ cls := "DiskPacksModel", name := "polishes", desc := "(I)I" } : Jvm.MethodName)) ∈ lw_tbl := lw_at lw_m8 203 rfl
theorem q1953 : (Jvm.Cond.instanceMethod ({ cls := "DiskPacksModel", name := "polishes", desc := "(I)I" } : Jvm.MethodName)) ∈ lw_all := lw_g (lw_at lw_m8 204 rfl) rfl
theorem q1954 : (Jvm.Cond.code ({ cls := "DiskPacksModel", name := "polishes", desc := "(I)I" } : Jvm.MethodName) prog_13_method_36_code (6 : Nat) (Option.some Jvm.ClassFile.FieldType.int)) ∈ lw_all := lw_g (lw_at lw_m8 205 rfl) rfl
theorem q1956 : (Jvm.Cond.instanceMethod ({ cls := "DiskPacksModel", name := "offsetOf", desc := "(II)I" } : Jvm.MethodName)) ∈ lw_all := lw_g (lw_at lw_m8 207 rfl) rfl
theorem q1957 : (Jvm.Cond.selects "DiskPacksModel" ({ cls := "DiskPacksModel", name := "offsetOf", desc := "(II)I" } : Jvm.MethodName) ({ cls := "DiskPacksModel", name := "offsetOf", desc := "(II)I" } : Jvm.MethodName)) ∈ lw_all := lw_g (lw_at lw_m8 208 rfl) rfl
theorem q1958 : (Jvm.Cond.code ({ cls := "DiskPacksModel", name := "offsetOf", desc := "(II)I" } : Jvm.MethodName) prog_13_method_51_code (3 : Nat) (Option.some Jvm.ClassFile.FieldType.int)) ∈ lw_all := lw_g (lw_at lw_m8 209 rfl) rfl
theorem q1959 : (Jvm.Cond.methodLink "DiskPacksModel" (147 : Nat) ({ cls := "DiskPacksModel", name := "about", desc := "(III)I" } : Jvm.MethodName)) ∈ lw_all := lw_g (lw_at lw_m8 210 rfl) rfl
theorem q1960 : (Jvm.Cond.privateMethod ({ cls := "DiskPacksModel", name := "about", desc := "(III)I" } : Jvm.MethodName)) ∈ lw_tbl := lw_at lw_m8 211 rfl
theorem q1961 : (Jvm.Cond.instanceMethod ({ cls := "DiskPacksModel", name := "about", desc := "(III)I" } : Jvm.MethodName)) ∈ lw_all := lw_g (lw_at lw_m8 212 rfl) rfl
theorem q1962 : (Jvm.Cond.code ({ cls := "DiskPacksModel", name := "about", desc := "(III)I" } : Jvm.MethodName) prog_13_method_49_code (4 : Nat) (Option.some Jvm.ClassFile.FieldType.int)) ∈ lw_all := lw_g (lw_at lw_m8 213 rfl) rfl
theorem q1964 : (Jvm.Cond.instanceMethod ({ cls := "DiskPacksModel", name := "isStruck", desc := "(II)Z" } : Jvm.MethodName)) ∈ lw_all := lw_g (lw_at lw_m8 215 rfl) rfl
theorem q1965 : (Jvm.Cond.selects "DiskPacksModel" ({ cls := "DiskPacksModel", name := "isStruck", desc := "(II)Z" } : Jvm.MethodName) ({ cls := "DiskPacksModel", name := "isStruck", desc := "(II)Z" } : Jvm.MethodName)) ∈ lw_all := lw_g (lw_at lw_m8 216 rfl) rfl
theorem q1966 : (Jvm.Cond.code ({ cls := "DiskPacksModel", name := "isStruck", desc := "(II)Z" } : Jvm.MethodName) prog_13_method_52_code (3 : Nat) (Option.some Jvm.ClassFile.FieldType.boolean)) ∈ lw_all := lw_g (lw_at lw_m8 217 rfl) rfl
theorem q1968 : (Jvm.Cond.instanceMethod ({ cls := "DiskPacksModel", name := "badPassesOf", desc := "(II)I" } : Jvm.MethodName)) ∈ lw_all := lw_g (lw_at lw_m8 219 rfl) rfl
theorem q1969 : (Jvm.Cond.selects "DiskPacksModel" ({ cls := "DiskPacksModel", name := "badPassesOf", desc := "(II)I" } : Jvm.MethodName) ({ cls := "DiskPacksModel", name := "badPassesOf", desc := "(II)I" } : Jvm.MethodName)) ∈ lw_all := lw_g (lw_at lw_m8 220 rfl) rfl
theorem q1970 : (Jvm.Cond.code ({ cls := "DiskPacksModel", name := "badPassesOf", desc := "(II)I" } : Jvm.MethodName) prog_13_method_53_code (3 : Nat) (Option.some Jvm.ClassFile.FieldType.int)) ∈ lw_all := lw_g (lw_at lw_m8 221 rfl) rfl
theorem q1972 : (Jvm.Cond.instanceMethod ({ cls := "DiskPacksModel", name := "warmthOf", desc := "(I)I" } : Jvm.MethodName)) ∈ lw_all := lw_g (lw_at lw_m8 223 rfl) rfl
theorem q1973 : (Jvm.Cond.selects "DiskPacksModel" ({ cls := "DiskPacksModel", name := "warmthOf", desc := "(I)I" } : Jvm.MethodName) ({ cls := "DiskPacksModel", name := "warmthOf", desc := "(I)I" } : Jvm.MethodName)) ∈ lw_all := lw_g (lw_at lw_m8 224 rfl) rfl
theorem q1974 : (Jvm.Cond.code ({ cls := "DiskPacksModel", name := "warmthOf", desc := "(I)I" } : Jvm.MethodName) prog_13_method_54_code (2 : Nat) (Option.some Jvm.ClassFile.FieldType.int)) ∈ lw_all := lw_g (lw_at lw_m8 225 rfl) rfl
theorem q1975 : (Jvm.Cond.methodLink "DiskPacksModel" (150 : Nat) ({ cls := "DiskPacksModel", name := "ofDrive", desc := "(II)I" } : Jvm.MethodName)) ∈ lw_all := lw_g (lw_at lw_m8 226 rfl) rfl
theorem q1976 : (Jvm.Cond.privateMethod ({ cls := "DiskPacksModel", name := "ofDrive", desc := "(II)I" } : Jvm.MethodName)) ∈ lw_tbl := lw_at lw_m8 227 rfl
theorem q1977 : (Jvm.Cond.instanceMethod ({ cls := "DiskPacksModel", name := "ofDrive", desc := "(II)I" } : Jvm.MethodName)) ∈ lw_all := lw_g (lw_at lw_m8 228 rfl) rfl
theorem q1978 : (Jvm.Cond.code ({ cls := "DiskPacksModel", name := "ofDrive", desc := "(II)I" } : Jvm.MethodName) prog_13_method_50_code (3 : Nat) (Option.some Jvm.ClassFile.FieldType.int)) ∈ lw_all := lw_g (lw_at lw_m8 229 rfl) rfl
theorem q1980 : (Jvm.Cond.instanceMethod ({ cls := "DiskPacksModel", name := "cylinderOf", desc := "(I)I" } : Jvm.MethodName)) ∈ lw_all := lw_g (lw_at lw_m8 231 rfl) rfl
theorem q1981 : (Jvm.Cond.selects "DiskPacksModel" ({ cls := "DiskPacksModel", name := "cylinderOf", desc := "(I)I" } : Jvm.MethodName) ({ cls := "DiskPacksModel", name := "cylinderOf", desc := "(I)I" } : Jvm.MethodName)) ∈ lw_all := lw_g (lw_at lw_m8 232 rfl) rfl
theorem q1982 : (Jvm.Cond.code ({ cls := "DiskPacksModel", name := "cylinderOf", desc := "(I)I" } : Jvm.MethodName) prog_13_method_55_code (2 : Nat) (Option.some Jvm.ClassFile.FieldType.int)) ∈ lw_all := lw_g (lw_at lw_m8 233 rfl) rfl
theorem q1984 : (Jvm.Cond.instanceMethod ({ cls := "DiskPacksModel", name := "packIn", desc := "(I)I" } : Jvm.MethodName)) ∈ lw_all := lw_g (lw_at lw_m8 235 rfl) rfl
theorem q1985 : (Jvm.Cond.selects "DiskPacksModel" ({ cls := "DiskPacksModel", name := "packIn", desc := "(I)I" } : Jvm.MethodName) ({ cls := "DiskPacksModel", name := "packIn", desc := "(I)I" } : Jvm.MethodName)) ∈ lw_all := lw_g (lw_at lw_m8 236 rfl) rfl
theorem q1986 : (Jvm.Cond.code ({ cls := "DiskPacksModel", name := "packIn", desc := "(I)I" } : Jvm.MethodName) prog_13_method_56_code (2 : Nat) (Option.some Jvm.ClassFile.FieldType.int)) ∈ lw_all := lw_g (lw_at lw_m8 237 rfl) rfl
theorem q1988 : (Jvm.Cond.instanceMethod ({ cls := "DiskPacksModel", name := "learned", desc := "(II)I" } : Jvm.MethodName)) ∈ lw_all := lw_g (lw_at lw_m8 239 rfl) rfl
theorem q1989 : (Jvm.Cond.selects "DiskPacksModel" ({ cls := "DiskPacksModel", name := "learned", desc := "(II)I" } : Jvm.MethodName) ({ cls := "DiskPacksModel", name := "learned", desc := "(II)I" } : Jvm.MethodName)) ∈ lw_all := lw_g (lw_at lw_m9 0 rfl) rfl
theorem q1990 : (Jvm.Cond.code ({ cls := "DiskPacksModel", name := "learned", desc := "(II)I" } : Jvm.MethodName) prog_13_method_57_code (3 : Nat) (Option.some Jvm.ClassFile.FieldType.int)) ∈ lw_all := lw_g (lw_at lw_m9 1 rfl) rfl
theorem q1992 : (Jvm.Cond.instanceMethod ({ cls := "DiskPacksModel", name := "placeOf", desc := "(II)I" } : Jvm.MethodName)) ∈ lw_all := lw_g (lw_at lw_m9 3 rfl) rfl
theorem q1993 : (Jvm.Cond.selects "DiskPacksModel" ({ cls := "DiskPacksModel", name := "placeOf", desc := "(II)I" } : Jvm.MethodName) ({ cls := "DiskPacksModel", name := "placeOf", desc := "(II)I" } : Jvm.MethodName)) ∈ lw_all := lw_g (lw_at lw_m9 4 rfl) rfl
theorem q1994 : (Jvm.Cond.code ({ cls := "DiskPacksModel", name := "placeOf", desc := "(II)I" } : Jvm.MethodName) prog_13_method_58_code (4 : Nat) (Option.some Jvm.ClassFile.FieldType.int)) ∈ lw_all := lw_g (lw_at lw_m9 5 rfl) rfl
theorem q1996 : (Jvm.Cond.instanceMethod ({ cls := "DiskPacksModel", name := "packs", desc := "()I" } : Jvm.MethodName)) ∈ lw_all := lw_g (lw_at lw_m9 7 rfl) rfl
theorem q1997 : (Jvm.Cond.selects "DiskPacksModel" ({ cls := "DiskPacksModel", name := "packs", desc := "()I" } : Jvm.MethodName) ({ cls := "DiskPacksModel", name := "packs", desc := "()I" } : Jvm.MethodName)) ∈ lw_all := lw_g (lw_at lw_m9 8 rfl) rfl
theorem q1998 : (Jvm.Cond.code ({ cls := "DiskPacksModel", name := "packs", desc := "()I" } : Jvm.MethodName) prog_13_method_59_code (1 : Nat) (Option.some Jvm.ClassFile.FieldType.int)) ∈ lw_all := lw_g (lw_at lw_m9 9 rfl) rfl
theorem q2000 : (Jvm.Cond.instanceMethod ({ cls := "DiskPacksModel", name := "driveOf", desc := "(I)I" } : Jvm.MethodName)) ∈ lw_all := lw_g (lw_at lw_m9 11 rfl) rfl
theorem q2001 : (Jvm.Cond.selects "DiskPacksModel" ({ cls := "DiskPacksModel", name := "driveOf", desc := "(I)I" } : Jvm.MethodName) ({ cls := "DiskPacksModel", name := "driveOf", desc := "(I)I" } : Jvm.MethodName)) ∈ lw_all := lw_g (lw_at lw_m9 12 rfl) rfl
theorem q2002 : (Jvm.Cond.code ({ cls := "DiskPacksModel", name := "driveOf", desc := "(I)I" } : Jvm.MethodName) prog_13_method_60_code (2 : Nat) (Option.some Jvm.ClassFile.FieldType.int)) ∈ lw_all := lw_g (lw_at lw_m9 13 rfl) rfl
theorem q2004 : (Jvm.Cond.instanceMethod ({ cls := "DiskPacksModel", name := "baseOf", desc := "(I)I" } : Jvm.MethodName)) ∈ lw_all := lw_g (lw_at lw_m9 15 rfl) rfl
theorem q2005 : (Jvm.Cond.selects "DiskPacksModel" ({ cls := "DiskPacksModel", name := "baseOf", desc := "(I)I" } : Jvm.MethodName) ({ cls := "DiskPacksModel", name := "baseOf", desc := "(I)I" } : Jvm.MethodName)) ∈ lw_all := lw_g (lw_at lw_m9 16 rfl) rfl
theorem q2006 : (Jvm.Cond.code ({ cls := "DiskPacksModel", name := "baseOf", desc := "(I)I" } : Jvm.MethodName) prog_13_method_61_code (2 : Nat) (Option.some Jvm.ClassFile.FieldType.int)) ∈ lw_all := lw_g (lw_at lw_m9 17 rfl) rfl
theorem q2008 : (Jvm.Cond.instanceMethod ({ cls := "DiskPacksModel", name := "isScratched", desc := "(II)Z" } : Jvm.MethodName)) ∈ lw_all := lw_g (lw_at lw_m9 19 rfl) rfl
theorem q2009 : (Jvm.Cond.selects "DiskPacksModel" ({ cls := "DiskPacksModel", name := "isScratched", desc := "(II)Z" } : Jvm.MethodName) ({ cls := "DiskPacksModel", name := "isScratched", desc := "(II)Z" } : Jvm.MethodName)) ∈ lw_all := lw_g (lw_at lw_m9 20 rfl) rfl
theorem q2010 : (Jvm.Cond.code ({ cls := "DiskPacksModel", name := "isScratched", desc := "(II)Z" } : Jvm.MethodName) prog_13_method_62_code (3 : Nat) (Option.some Jvm.ClassFile.FieldType.boolean)) ∈ lw_all := lw_g (lw_at lw_m9 21 rfl) rfl
theorem q2012 : (Jvm.Cond.instanceMethod ({ cls := "DiskPacksModel", name := "valueOf", desc := "(III)I" } : Jvm.MethodName)) ∈ lw_all := lw_g (lw_at lw_m9 23 rfl) rfl
theorem q2013 : (Jvm.Cond.selects "DiskPacksModel" ({ cls := "DiskPacksModel", name := "valueOf", desc := "(III)I" } : Jvm.MethodName) ({ cls := "DiskPacksModel", name := "valueOf", desc := "(III)I" } : Jvm.MethodName)) ∈ lw_all := lw_g (lw_at lw_m9 24 rfl) rfl
theorem q2014 : (Jvm.Cond.code ({ cls := "DiskPacksModel", name := "valueOf", desc := "(III)I" } : Jvm.MethodName) prog_13_method_64_code (5 : Nat) (Option.some Jvm.ClassFile.FieldType.int)) ∈ lw_all := lw_g (lw_at lw_m9 25 rfl) rfl
theorem q2015 : (Jvm.Cond.methodLink "DiskPacksModel" (153 : Nat) ({ cls := "DiskPacksModel", name := "trackAt", desc := "(III)I" } : Jvm.MethodName)) ∈ lw_all := lw_g (lw_at lw_m9 26 rfl) rfl
theorem q2016 : (Jvm.Cond.privateMethod ({ cls := "DiskPacksModel", name := "trackAt", desc := "(III)I" } : Jvm.MethodName)) ∈ lw_tbl := lw_at lw_m9 27 rfl
theorem q2017 : (Jvm.Cond.instanceMethod ({ cls := "DiskPacksModel", name := "trackAt", desc := "(III)I" } : Jvm.MethodName)) ∈ lw_all := lw_g (lw_at lw_m9 28 rfl) rfl
theorem q2018 : (Jvm.Cond.code ({ cls := "DiskPacksModel", name := "trackAt", desc := "(III)I" } : Jvm.MethodName) prog_13_method_63_code (4 : Nat) (Option.some Jvm.ClassFile.FieldType.int)) ∈ lw_all := lw_g (lw_at lw_m9 29 rfl) rfl
theorem q2020 : (Jvm.Cond.instanceMethod ({ cls := "DiskPacksModel", name := "positionOf", desc := "(III)I" } : Jvm.MethodName)) ∈ lw_all := lw_g (lw_at lw_m9 31 rfl) rfl
theorem q2021 : (Jvm.Cond.selects "DiskPacksModel" ({ cls := "DiskPacksModel", name := "positionOf", desc := "(III)I" } : Jvm.MethodName) ({ cls := "DiskPacksModel", name := "positionOf", desc := "(III)I" } : Jvm.MethodName)) ∈ lw_all := lw_g (lw_at lw_m9 32 rfl) rfl
theorem q2022 : (Jvm.Cond.code ({ cls := "DiskPacksModel", name := "positionOf", desc := "(III)I" } : Jvm.MethodName) prog_13_method_65_code (5 : Nat) (Option.some Jvm.ClassFile.FieldType.int)) ∈ lw_all := lw_g (lw_at lw_m9 33 rfl) rfl
theorem q2024 : (Jvm.Cond.instanceMethod ({ cls := "DiskPacksModel", name := "strengthOf", desc := "(III)F" } : Jvm.MethodName)) ∈ lw_all := lw_g (lw_at lw_m9 35 rfl) rfl
theorem q2025 : (Jvm.Cond.selects "DiskPacksModel" ({ cls := "DiskPacksModel", name := "strengthOf", desc := "(III)F" } : Jvm.MethodName) ({ cls := "DiskPacksModel", name := "strengthOf", desc := "(III)F" } : Jvm.MethodName)) ∈ lw_all := lw_g (lw_at lw_m9 36 rfl) rfl
theorem q2026 : (Jvm.Cond.code ({ cls := "DiskPacksModel", name := "strengthOf", desc := "(III)F" } : Jvm.MethodName) prog_13_method_66_code (5 : Nat) (Option.some Jvm.ClassFile.FieldType.float)) ∈ lw_all := lw_g (lw_at lw_m9 37 rfl) rfl
theorem q2028 : (Jvm.Cond.instanceMethod ({ cls := "DiskPacksModel", name := "writtenOn", desc := "(I)I" } : Jvm.MethodName)) ∈ lw_all := lw_g (lw_at lw_m9 39 rfl) rfl
theorem q2029 : (Jvm.Cond.selects "DiskPacksModel" ({ cls := "DiskPacksModel", name := "writtenOn", desc := "(I)I" } : Jvm.MethodName) ({ cls := "DiskPacksModel", name := "writtenOn", desc := "(I)I" } : Jvm.MethodName)) ∈ lw_all := lw_g (lw_at lw_m9 40 rfl) rfl
theorem q2030 : (Jvm.Cond.code ({ cls := "DiskPacksModel", name := "writtenOn", desc := "(I)I" } : Jvm.MethodName) prog_13_method_67_code (4 : Nat) (Option.some Jvm.ClassFile.FieldType.int)) ∈ lw_all := lw_g (lw_at lw_m9 41 rfl) rfl
theorem q2032 : (Jvm.Cond.instanceMethod ({ cls := "DiskPacksModel", name := "signal", desc := "(III)F" } : Jvm.MethodName)) ∈ lw_all := lw_g (lw_at lw_m9 43 rfl) rfl
theorem q2033 : (Jvm.Cond.selects "DiskPacksModel" ({ cls := "DiskPacksModel", name := "signal", desc := "(III)F" } : Jvm.MethodName) ({ cls := "DiskPacksModel", name := "signal", desc := "(III)F" } : Jvm.MethodName)) ∈ lw_all := lw_g (lw_at lw_m9 44 rfl) rfl
theorem q2034 : (Jvm.Cond.code ({ cls := "DiskPacksModel", name := "signal", desc := "(III)F" } : Jvm.MethodName) prog_13_method_69_code (4 : Nat) (Option.some Jvm.ClassFile.FieldType.float)) ∈ lw_all := lw_g (lw_at lw_m9 45 rfl) rfl
theorem q2035 : (Jvm.Cond.methodLink "DiskPacksModel" (156 : Nat) ({ cls := "DiskPacksModel", name := "signalRefusal", desc := "(III)I" } : Jvm.MethodName)) ∈ lw_all := lw_g (lw_at lw_m9 46 rfl) rfl
theorem q2036 : (Jvm.Cond.privateMethod ({ cls := "DiskPacksModel", name := "signalRefusal", desc := "(III)I" } : Jvm.MethodName)) ∈ lw_tbl := lw_at lw_m9 47 rfl
theorem q2037 : (Jvm.Cond.instanceMethod ({ cls := "DiskPacksModel", name := "signalRefusal", desc := "(III)I" } : Jvm.MethodName)) ∈ lw_all := lw_g (lw_at lw_m9 48 rfl) rfl
theorem q2038 : (Jvm.Cond.code ({ cls := "DiskPacksModel", name := "signalRefusal", desc := "(III)I" } : Jvm.MethodName) prog_13_method_68_code (4 : Nat) (Option.some Jvm.ClassFile.FieldType.int)) ∈ lw_all := lw_g (lw_at lw_m9 49 rfl) rfl
theorem q2040 : (Jvm.Cond.instanceMethod ({ cls := "DiskPacksModel", name := "signalBits", desc := "(III)I" } : Jvm.MethodName)) ∈ lw_all := lw_g (lw_at lw_m9 51 rfl) rfl
theorem q2041 : (Jvm.Cond.selects "DiskPacksModel" ({ cls := "DiskPacksModel", name := "signalBits", desc := "(III)I" } : Jvm.MethodName) ({ cls := "DiskPacksModel", name := "signalBits", desc := "(III)I" } : Jvm.MethodName)) ∈ lw_all := lw_g (lw_at lw_m9 52 rfl) rfl
theorem q2042 : (Jvm.Cond.code ({ cls := "DiskPacksModel", name := "signalBits", desc := "(III)I" } : Jvm.MethodName) prog_13_method_70_code (4 : Nat) (Option.some Jvm.ClassFile.FieldType.int)) ∈ lw_all := lw_g (lw_at lw_m9 53 rfl) rfl
theorem q2043 : (Jvm.Cond.methodLink "DiskPacksModel" (159 : Nat) ({ cls := "java/lang/Float", name := "floatToIntBits", desc := "(F)I" } : Jvm.MethodName)) ∈ lw_all := lw_g (lw_at lw_m9 54 rfl) rfl
theorem q2045 : (Jvm.Cond.instanceMethod ({ cls := "DiskPacksModel", name := "gap", desc := "(II)I" } : Jvm.MethodName)) ∈ lw_all := lw_g (lw_at lw_m9 56 rfl) rfl
theorem q2046 : (Jvm.Cond.selects "DiskPacksModel" ({ cls := "DiskPacksModel", name := "gap", desc := "(II)I" } : Jvm.MethodName) ({ cls := "DiskPacksModel", name := "gap", desc := "(II)I" } : Jvm.MethodName)) ∈ lw_all := lw_g (lw_at lw_m9 57 rfl) rfl
theorem q2047 : (Jvm.Cond.code ({ cls := "DiskPacksModel", name := "gap", desc := "(II)I" } : Jvm.MethodName) prog_13_method_71_code (4 : Nat) (Option.some Jvm.ClassFile.FieldType.int)) ∈ lw_all := lw_g (lw_at lw_m9 58 rfl) rfl
theorem q2049 : (Jvm.Cond.instanceMethod ({ cls := "DiskPacksModel", name := "retriesByTrying", desc := "(II)I" } : Jvm.MethodName)) ∈ lw_all := lw_g (lw_at lw_m9 60 rfl) rfl
theorem q2050 : (Jvm.Cond.selects "DiskPacksModel" ({ cls := "DiskPacksModel", name := "retriesByTrying", desc := "(II)I" } : Jvm.MethodName) ({ cls := "DiskPacksModel", name := "retriesByTrying", desc := "(II)I" } : Jvm.MethodName)) ∈ lw_all := lw_g (lw_at lw_m9 61 rfl) rfl
theorem q2051 : (Jvm.Cond.code ({ cls := "DiskPacksModel", name := "retriesByTrying", desc := "(II)I" } : Jvm.MethodName) prog_13_method_72_code (3 : Nat) (Option.some Jvm.ClassFile.FieldType.int)) ∈ lw_all := lw_g (lw_at lw_m9 62 rfl) rfl
theorem q2053 : (Jvm.Cond.instanceMethod ({ cls := "DiskPacksModel", name := "retriesByGap", desc := "(II)I" } : Jvm.MethodName)) ∈ lw_all := lw_g (lw_at lw_m9 64 rfl) rfl
theorem q2054 : (Jvm.Cond.selects "DiskPacksModel" ({ cls := "DiskPacksModel", name := "retriesByGap", desc := "(II)I" } : Jvm.MethodName) ({ cls := "DiskPacksModel", name := "retriesByGap", desc := "(II)I" } : Jvm.MethodName)) ∈ lw_all := lw_g (lw_at lw_m9 65 rfl) rfl
theorem q2055 : (Jvm.Cond.code ({ cls := "DiskPacksModel", name := "retriesByGap", desc := "(II)I" } : Jvm.MethodName) prog_13_method_73_code (3 : Nat) (Option.some Jvm.ClassFile.FieldType.int)) ∈ lw_all := lw_g (lw_at lw_m9 66 rfl) rfl
theorem q2056 : (Jvm.Cond.methodLink "DiskPacksModel" (165 : Nat) ({ cls := "DiskPacksModel", name := "retriesByTrying", desc := "(II)I" } : Jvm.MethodName)) ∈ lw_all := lw_g (lw_at lw_m9 67 rfl) rfl
theorem q2058 : (Jvm.Cond.instanceMethod ({ cls := "DiskPacksModel", name := "readableBy", desc := "(III)I" } : Jvm.MethodName)) ∈ lw_all := lw_g (lw_at lw_m9 69 rfl) rfl
theorem q2059 : (Jvm.Cond.selects "DiskPacksModel" ({ cls := "DiskPacksModel", name := "readableBy", desc := "(III)I" } : Jvm.MethodName) ({ cls := "DiskPacksModel", name := "readableBy", desc := "(III)I" } : Jvm.MethodName)) ∈ lw_all := lw_g (lw_at lw_m9 70 rfl) rfl
theorem q2060 : (Jvm.Cond.code ({ cls := "DiskPacksModel", name := "readableBy", desc := "(III)I" } : Jvm.MethodName) prog_13_method_74_code (7 : Nat) (Option.some Jvm.ClassFile.FieldType.int)) ∈ lw_all := lw_g (lw_at lw_m9 71 rfl) rfl
theorem q2062 : (Jvm.Cond.instanceMethod ({ cls := "DiskPacksModel", name := "readableIn", desc := "(II)I" } : Jvm.MethodName)) ∈ lw_all := lw_g (lw_at lw_m9 73 rfl) rfl
theorem q2063 : (Jvm.Cond.selects "DiskPacksModel" ({ cls := "DiskPacksModel", name := "readableIn", desc := "(II)I" } : Jvm.MethodName) ({ cls := "DiskPacksModel", name := "readableIn", desc := "(II)I" } : Jvm.MethodName)) ∈ lw_all := lw_g (lw_at lw_m9 74 rfl) rfl
theorem q2064 : (Jvm.Cond.code ({ cls := "DiskPacksModel", name := "readableIn", desc := "(II)I" } : Jvm.MethodName) prog_13_method_75_code (6 : Nat) (Option.some Jvm.ClassFile.FieldType.int)) ∈ lw_all := lw_g (lw_at lw_m9 75 rfl) rfl
theorem q2066 : (Jvm.Cond.instanceMethod ({ cls := "DiskPacksModel", name := "reads", desc := "()I" } : Jvm.MethodName)) ∈ lw_all := lw_g (lw_at lw_m9 77 rfl) rfl
theorem q2067 : (Jvm.Cond.selects "DiskPacksModel" ({ cls := "DiskPacksModel", name := "reads", desc := "()I" } : Jvm.MethodName) ({ cls := "DiskPacksModel", name := "reads", desc := "()I" } : Jvm.MethodName)) ∈ lw_all := lw_g (lw_at lw_m9 78 rfl) rfl
theorem q2068 : (Jvm.Cond.code ({ cls := "DiskPacksModel", name := "reads", desc := "()I" } : Jvm.MethodName) prog_13_method_76_code (1 : Nat) (Option.some Jvm.ClassFile.FieldType.int)) ∈ lw_all := lw_g (lw_at lw_m9 79 rfl) rfl
theorem q2070 : (Jvm.Cond.instanceMethod ({ cls := "DiskPacksModel", name := "failures", desc := "()I" } : Jvm.MethodName)) ∈ lw_all := lw_g (lw_at lw_m9 81 rfl) rfl
theorem q2071 : (Jvm.Cond.selects "DiskPacksModel" ({ cls := "DiskPacksModel", name := "failures", desc := "()I" } : Jvm.MethodName) ({ cls := "DiskPacksModel", name := "failures", desc := "()I" } : Jvm.MethodName)) ∈ lw_all := lw_g (lw_at lw_m9 82 rfl) rfl
theorem q2072 : (Jvm.Cond.code ({ cls := "DiskPacksModel", name := "failures", desc := "()I" } : Jvm.MethodName) prog_13_method_77_code (1 : Nat) (Option.some Jvm.ClassFile.FieldType.int)) ∈ lw_all := lw_g (lw_at lw_m9 83 rfl) rfl
theorem q2074 : (Jvm.Cond.instanceMethod ({ cls := "DiskPacksModel", name := "retriesByDrives", desc := "()I" } : Jvm.MethodName)) ∈ lw_all := lw_g (lw_at lw_m9 85 rfl) rfl
theorem q2075 : (Jvm.Cond.selects "DiskPacksModel" ({ cls := "DiskPacksModel", name := "retriesByDrives", desc := "()I" } : Jvm.MethodName) ({ cls := "DiskPacksModel", name := "retriesByDrives", desc := "()I" } : Jvm.MethodName)) ∈ lw_all := lw_g (lw_at lw_m9 86 rfl) rfl
theorem q2076 : (Jvm.Cond.code ({ cls := "DiskPacksModel", name := "retriesByDrives", desc := "()I" } : Jvm.MethodName) prog_13_method_79_code (1 : Nat) (Option.some Jvm.ClassFile.FieldType.int)) ∈ lw_all := lw_g (lw_at lw_m9 87 rfl) rfl
theorem q2077 : (Jvm.Cond.methodLink "DiskPacksModel" (168 : Nat) ({ cls := "DiskPacksModel", name := "sum", desc := "(II)I" } : Jvm.MethodName)) ∈ lw_all := lw_g (lw_at lw_m9 88 rfl) rfl
theorem q2078 : (Jvm.Cond.privateMethod ({ cls := "DiskPacksModel", name := "sum", desc := "(II)I" } : Jvm.MethodName)) ∈ lw_tbl := lw_at lw_m9 89 rfl
theorem q2079 : (Jvm.Cond.instanceMethod ({ cls := "DiskPacksModel", name := "sum", desc := "(II)I" } : Jvm.MethodName)) ∈ lw_all := lw_g (lw_at lw_m9 90 rfl) rfl
theorem q2080 : (Jvm.Cond.code ({ cls := "DiskPacksModel", name := "sum", desc := "(II)I" } : Jvm.MethodName) prog_13_method_78_code (5 : Nat) (Option.some Jvm.ClassFile.FieldType.int)) ∈ lw_all := lw_g (lw_at lw_m9 91 rfl) rfl
theorem q2082 : (Jvm.Cond.instanceMethod ({ cls := "DiskPacksModel", name := "retriesByPacks", desc := "()I" } : Jvm.MethodName)) ∈ lw_all := lw_g (lw_at lw_m9 93 rfl) rfl
theorem q2083 : (Jvm.Cond.selects "DiskPacksModel" ({ cls := "DiskPacksModel", name := "retriesByPacks", desc := "()I" } : Jvm.MethodName) ({ cls := "DiskPacksModel", name := "retriesByPacks", desc := "()I" } : Jvm.MethodName)) ∈ lw_all := lw_g (lw_at lw_m9 94 rfl) rfl
theorem q2084 : (Jvm.Cond.code ({ cls := "DiskPacksModel", name := "retriesByPacks", desc := "()I" } : Jvm.MethodName) prog_13_method_80_code (1 : Nat) (Option.some Jvm.ClassFile.FieldType.int)) ∈ lw_all := lw_g (lw_at lw_m9 95 rfl) rfl
theorem q2086 : (Jvm.Cond.instanceMethod ({ cls := "DiskPacksModel", name := "meanRetries", desc := "()D" } : Jvm.MethodName)) ∈ lw_all := lw_g (lw_at lw_m9 97 rfl) rfl
theorem q2087 : (Jvm.Cond.selects "DiskPacksModel" ({ cls := "DiskPacksModel", name := "meanRetries", desc := "()D" } : Jvm.MethodName) ({ cls := "DiskPacksModel", name := "meanRetries", desc := "()D" } : Jvm.MethodName)) ∈ lw_all := lw_g (lw_at lw_m9 98 rfl) rfl
theorem q2088 : (Jvm.Cond.code ({ cls := "DiskPacksModel", name := "meanRetries", desc := "()D" } : Jvm.MethodName) prog_13_method_81_code (2 : Nat) (Option.some Jvm.ClassFile.FieldType.double)) ∈ lw_all := lw_g (lw_at lw_m9 99 rfl) rfl
theorem q2090 : (Jvm.Cond.instanceMethod ({ cls := "DiskPacksModel", name := "append", desc := "(I)I" } : Jvm.MethodName)) ∈ lw_all := lw_g (lw_at lw_m9 101 rfl) rfl
theorem q2091 : (Jvm.Cond.selects "DiskPacksModel" ({ cls := "DiskPacksModel", name := "append", desc := "(I)I" } : Jvm.MethodName) ({ cls := "DiskPacksModel", name := "append", desc := "(I)I" } : Jvm.MethodName)) ∈ lw_all := lw_g (lw_at lw_m9 102 rfl) rfl
theorem q2092 : (Jvm.Cond.code ({ cls := "DiskPacksModel", name := "append", desc := "(I)I" } : Jvm.MethodName) prog_13_method_82_code (2 : Nat) (Option.some Jvm.ClassFile.FieldType.int)) ∈ lw_all := lw_g (lw_at lw_m9 103 rfl) rfl
theorem q2094 : (Jvm.Cond.instanceMethod ({ cls := "DiskPacksModel", name := "clearText", desc := "()I" } : Jvm.MethodName)) ∈ lw_all := lw_g (lw_at lw_m9 105 rfl) rfl
theorem q2095 : (Jvm.Cond.selects "DiskPacksModel" ({ cls := "DiskPacksModel", name := "clearText", desc := "()I" } : Jvm.MethodName) ({ cls := "DiskPacksModel", name := "clearText", desc := "()I" } : Jvm.MethodName)) ∈ lw_all := lw_g (lw_at lw_m9 106 rfl) rfl
theorem q2096 : (Jvm.Cond.code ({ cls := "DiskPacksModel", name := "clearText", desc := "()I" } : Jvm.MethodName) prog_13_method_83_code (2 : Nat) (Option.some Jvm.ClassFile.FieldType.int)) ∈ lw_all := lw_g (lw_at lw_m9 107 rfl) rfl
theorem q2098 : (Jvm.Cond.instanceMethod ({ cls := "DiskPacksModel", name := "errorPosition", desc := "()I" } : Jvm.MethodName)) ∈ lw_all := lw_g (lw_at lw_m9 109 rfl) rfl
theorem q2099 : (Jvm.Cond.selects "DiskPacksModel" ({ cls := "DiskPacksModel", name := "errorPosition", desc := "()I" } : Jvm.MethodName) ({ cls := "DiskPacksModel", name := "errorPosition", desc := "()I" } : Jvm.MethodName)) ∈ lw_all := lw_g (lw_at lw_m9 110 rfl) rfl
theorem q2100 : (Jvm.Cond.code ({ cls := "DiskPacksModel", name := "errorPosition", desc := "()I" } : Jvm.MethodName) prog_13_method_89_code (1 : Nat) (Option.some Jvm.ClassFile.FieldType.int)) ∈ lw_all := lw_g (lw_at lw_m9 111 rfl) rfl
theorem q2101 : (Jvm.Cond.methodLink "DiskPacksModel" (207 : Nat) ({ cls := "DiskPacksModel", name := "isText", desc := "()Z" } : Jvm.MethodName)) ∈ lw_all := lw_g (lw_at lw_m9 112 rfl) rfl
theorem q2102 : (Jvm.Cond.privateMethod ({ cls := "DiskPacksModel", name := "isText", desc := "()Z" } : Jvm.MethodName)) ∈ lw_tbl := lw_at lw_m9 113 rfl
theorem q2103 : (Jvm.Cond.instanceMethod ({ cls := "DiskPacksModel", name := "isText", desc := "()Z" } : Jvm.MethodName)) ∈ lw_all := lw_g (lw_at lw_m9 114 rfl) rfl
theorem q2104 : (Jvm.Cond.code ({ cls := "DiskPacksModel", name := "isText", desc := "()Z" } : Jvm.MethodName) prog_13_method_88_code (2 : Nat) (Option.some Jvm.ClassFile.FieldType.boolean)) ∈ lw_all := lw_g (lw_at lw_m9 115 rfl) rfl
theorem q2105 : (Jvm.Cond.methodLink "DiskPacksModel" (177 : Nat) ({ cls := "DiskPacksModel", name := "sign", desc := "()I" } : Jvm.MethodName)) ∈ lw_all := lw_g (lw_at lw_m9 116 rfl) rfl
theorem q2106 : (Jvm.Cond.privateMethod ({ cls := "DiskPacksModel", name := "sign", desc := "()I" } : Jvm.MethodName)) ∈ lw_tbl := lw_at lw_m9 117 rfl
theorem q2107 : (Jvm.Cond.instanceMethod ({ cls := "DiskPacksModel", name := "sign", desc := "()I" } : Jvm.MethodName)) ∈ lw_all := lw_g (lw_at lw_m9 118 rfl) rfl
theorem q2108 : (Jvm.Cond.code ({ cls := "DiskPacksModel", name := "sign", desc := "()I" } : Jvm.MethodName) prog_13_method_84_code (1 : Nat) (Option.some Jvm.ClassFile.FieldType.int)) ∈ lw_all := lw_g (lw_at lw_m9 119 rfl) rfl
theorem q2109 : (Jvm.Cond.methodLink "DiskPacksModel" (203 : Nat) ({ cls := "DiskPacksModel", name := "part", desc := "(I)V" } : Jvm.MethodName)) ∈ lw_all := lw_g (lw_at lw_m9 120 rfl) rfl
theorem q2110 : (Jvm.Cond.privateMethod ({ cls := "DiskPacksModel", name := "part", desc := "(I)V" } : Jvm.MethodName)) ∈ lw_tbl := lw_at lw_m9 121 rfl
theorem q2111 : (Jvm.Cond.instanceMethod ({ cls := "DiskPacksModel", name := "part", desc := "(I)V" } : Jvm.MethodName)) ∈ lw_all := lw_g (lw_at lw_m9 122 rfl) rfl
theorem q2112 : (Jvm.Cond.code ({ cls := "DiskPacksModel", name := "part", desc := "(I)V" } : Jvm.MethodName) prog_13_method_87_code (3 : Nat) (Option.none : Option Jvm.ClassFile.FieldType)) ∈ lw_all := lw_g (lw_at lw_m9 123 rfl) rfl
theorem q2113 : (Jvm.Cond.methodLink "DiskPacksModel" (185 : Nat) ({ cls := "DiskPacksModel", name := "needs", desc := "(II)I" } : Jvm.MethodName)) ∈ lw_all := lw_g (lw_at lw_m9 124 rfl) rfl
theorem q2114 : (Jvm.Cond.privateMethod ({ cls := "DiskPacksModel", name := "needs", desc := "(II)I" } : Jvm.MethodName)) ∈ lw_tbl := lw_at lw_m9 125 rfl
theorem q2115 : (Jvm.Cond.instanceMethod ({ cls := "DiskPacksModel", name := "needs", desc := "(II)I" } : Jvm.MethodName)) ∈ lw_all := lw_g (lw_at lw_m9 126 rfl) rfl
theorem q2116 : (Jvm.Cond.code ({ cls := "DiskPacksModel", name := "needs", desc := "(II)I" } : Jvm.MethodName) prog_13_method_85_code (4 : Nat) (Option.some Jvm.ClassFile.FieldType.int)) ∈ lw_all := lw_g (lw_at lw_m9 127 rfl) rfl
theorem q2117 : (Jvm.Cond.methodLink "DiskPacksModel" (200 : Nat) ({ cls := "DiskPacksModel", name := "number", desc := "(I)I" } : Jvm.MethodName)) ∈ lw_all := lw_g (lw_at lw_m9 128 rfl) rfl
theorem q2118 : (Jvm.Cond.privateMethod ({ cls := "DiskPacksModel", name := "number", desc := "(I)I" } : Jvm.MethodName)) ∈ lw_tbl := lw_at lw_m9 129 rfl
theorem q2119 : (Jvm.Cond.instanceMethod ({ cls := "DiskPacksModel", name := "number", desc := "(I)I" } : Jvm.MethodName)) ∈ lw_all := lw_g (lw_at lw_m9 130 rfl) rfl
theorem q2120 : (Jvm.Cond.code ({ cls := "DiskPacksModel", name := "number", desc := "(I)I" } : Jvm.MethodName) prog_13_method_86_code (5 : Nat) (Option.some Jvm.ClassFile.FieldType.int)) ∈ lw_all := lw_g (lw_at lw_m9 131 rfl) rfl
theorem q2122 : (Jvm.Cond.instanceMethod ({ cls := "DiskPacksModel", name := "runText", desc := "()I" } : Jvm.MethodName)) ∈ lw_all := lw_g (lw_at lw_m9 133 rfl) rfl
theorem q2123 : (Jvm.Cond.selects "DiskPacksModel" ({ cls := "DiskPacksModel", name := "runText", desc := "()I" } : Jvm.MethodName) ({ cls := "DiskPacksModel", name := "runText", desc := "()I" } : Jvm.MethodName)) ∈ lw_all := lw_g (lw_at lw_m9 134 rfl) rfl
theorem q2124 : (Jvm.Cond.code ({ cls := "DiskPacksModel", name := "runText", desc := "()I" } : Jvm.MethodName) prog_13_method_91_code (3 : Nat) (Option.some Jvm.ClassFile.FieldType.int)) ∈ lw_all := lw_g (lw_at lw_m9 135 rfl) rfl
theorem q2125 : (Jvm.Cond.methodLink "DiskPacksModel" (211 : Nat) ({ cls := "DiskPacksModel", name := "does", desc := "()Z" } : Jvm.MethodName)) ∈ lw_all := lw_g (lw_at lw_m9 136 rfl) rfl
theorem q2126 : (Jvm.Cond.privateMethod ({ cls := "DiskPacksModel", name := "does", desc := "()Z" } : Jvm.MethodName)) ∈ lw_tbl := lw_at lw_m9 137 rfl
theorem q2127 : (Jvm.Cond.instanceMethod ({ cls := "DiskPacksModel", name := "does", desc := "()Z" } : Jvm.MethodName)) ∈ lw_all := lw_g (lw_at lw_m9 138 rfl) rfl
theorem q2128 : (Jvm.Cond.code ({ cls := "DiskPacksModel", name := "does", desc := "()Z" } : Jvm.MethodName) prog_13_method_90_code (2 : Nat) (Option.some Jvm.ClassFile.FieldType.boolean)) ∈ lw_all := lw_g (lw_at lw_m9 139 rfl) rfl
theorem q2130 : (Jvm.Cond.instanceMethod ({ cls := "DiskPacksModel", name := "undo", desc := "()I" } : Jvm.MethodName)) ∈ lw_all := lw_g (lw_at lw_m9 141 rfl) rfl
theorem q2131 : (Jvm.Cond.selects "DiskPacksModel" ({ cls := "DiskPacksModel", name := "undo", desc := "()I" } : Jvm.MethodName) ({ cls := "DiskPacksModel", name := "undo", desc := "()I" } : Jvm.MethodName)) ∈ lw_all := lw_g (lw_at lw_m9 142 rfl) rfl
theorem q2132 : (Jvm.Cond.code ({ cls := "DiskPacksModel", name := "undo", desc := "()I" } : Jvm.MethodName) prog_13_method_92_code (2 : Nat) (Option.some Jvm.ClassFile.FieldType.int)) ∈ lw_all := lw_g (lw_at lw_m9 143 rfl) rfl
theorem q2134 : (Jvm.Cond.instanceMethod ({ cls := "DiskPacksModel", name := "savedStates", desc := "()I" } : Jvm.MethodName)) ∈ lw_all := lw_g (lw_at lw_m9 145 rfl) rfl
theorem q2135 : (Jvm.Cond.selects "DiskPacksModel" ({ cls := "DiskPacksModel", name := "savedStates", desc := "()I" } : Jvm.MethodName) ({ cls := "DiskPacksModel", name := "savedStates", desc := "()I" } : Jvm.MethodName)) ∈ lw_all := lw_g (lw_at lw_m9 146 rfl) rfl
theorem q2136 : (Jvm.Cond.code ({ cls := "DiskPacksModel", name := "savedStates", desc := "()I" } : Jvm.MethodName) prog_13_method_93_code (1 : Nat) (Option.some Jvm.ClassFile.FieldType.int)) ∈ lw_all := lw_g (lw_at lw_m9 147 rfl) rfl
theorem q2138 : (Jvm.Cond.instanceMethod ({ cls := "DiskPacksModel", name := "takeSnapshot", desc := "()I" } : Jvm.MethodName)) ∈ lw_all := lw_g (lw_at lw_m9 149 rfl) rfl
theorem q2139 : (Jvm.Cond.selects "DiskPacksModel" ({ cls := "DiskPacksModel", name := "takeSnapshot", desc := "()I" } : Jvm.MethodName) ({ cls := "DiskPacksModel", name := "takeSnapshot", desc := "()I" } : Jvm.MethodName)) ∈ lw_all := lw_g (lw_at lw_m9 150 rfl) rfl
theorem q2140 : (Jvm.Cond.code ({ cls := "DiskPacksModel", name := "takeSnapshot", desc := "()I" } : Jvm.MethodName) prog_13_method_94_code (2 : Nat) (Option.some Jvm.ClassFile.FieldType.int)) ∈ lw_all := lw_g (lw_at lw_m9 151 rfl) rfl
theorem q2142 : (Jvm.Cond.instanceMethod ({ cls := "DiskPacksModel", name := "restoreSnapshot", desc := "()I" } : Jvm.MethodName)) ∈ lw_all := lw_g (lw_at lw_m9 153 rfl) rfl
theorem q2143 : (Jvm.Cond.selects "DiskPacksModel" ({ cls := "DiskPacksModel", name := "restoreSnapshot", desc := "()I" } : Jvm.MethodName) ({ cls := "DiskPacksModel", name := "restoreSnapshot", desc := "()I" } : Jvm.MethodName)) ∈ lw_all := lw_g (lw_at lw_m9 154 rfl) rfl
theorem q2144 : (Jvm.Cond.code ({ cls := "DiskPacksModel", name := "restoreSnapshot", desc := "()I" } : Jvm.MethodName) prog_13_method_95_code (2 : Nat) (Option.some Jvm.ClassFile.FieldType.int)) ∈ lw_all := lw_g (lw_at lw_m9 155 rfl) rfl
theorem q2178 : (Jvm.Cond.castable "DiskPacksModel" "java/lang/Object") ∈ lw_tbl := lw_at lw_m9 189 rfl
theorem in_X7 : ∀ w ∈ wsX70, w ∈ lw_all := lw_in wsX70 [1737, 1739, 1741, 1743, 1745, 1747, 1749, 1751, 1753, 1755, 1757, 1759, 1761, 1763, 1765, 1767, 1769] (by decide +kernel) (by decide +kernel)
