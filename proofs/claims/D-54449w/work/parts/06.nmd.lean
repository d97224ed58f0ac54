/-! DiskPacks$TextReader -/
set_option maxRecDepth 100000
def RX10 : String := "DiskPacks$TextReader"
def TX10 : u_T := fun k => match k with
  | 0 => ("DiskPacks$TextReader", "place", "I", false)
  | 1 => ("DiskPacks$TextReader", "isWrong", "Z", false)
  | 2 => ("DiskPacks$TextReader", "orders", "[LDiskPacks$Order;", true)
  | 3 => ("DiskPacks$TextReader", "many", "I", false)
  | _ => ("DiskPacks$TextReader", "this$0", "LDiskPacks;", true)
def tyX10 : Nat → FieldType := fun k => match k with
  | 0 => .int
  | 1 => .boolean
  | 2 => .array (.object "DiskPacks$Order")
  | 3 => .int
  | _ => .object "DiskPacks"
abbrev wsX100 : List Cond := u_ws RX10 TX10 5
theorem nmX10 : ∀ a, a < 5 → ∀ b, b < 5 → a ≠ b → (TX10 a).2.1 ≠ (TX10 b).2.1 := by decide +kernel
theorem tyX10_ok : ∀ k, k < 5 → parseFieldDescriptor (TX10 k).2.2.1 = some (tyX10 k) := by decide +kernel
abbrev cX10_init : ByteArray := prog_11_method_1_code
def yX10_init : MethodName := ⟨RX10, "<init>", "(LDiskPacks;)V"⟩
def dkwX10_init_0 : List UInt8 := [42, 43, 181, 0, 3, 42, 183, 0, 9, 42, 16, 60, 189, 0, 15, 181, 0, 17, 177]
abbrev dktX10_init_0 : List UInt8 := dkwX10_init_0 ++ []
theorem dksX10_init_0 : cX10_init.data.toList.drop 0 = dktX10_init_0 := by decide +kernel
theorem dX10_init_0 : decode cX10_init 0 = .ok (.aload_n 0, 1) := dk_42 (dk_at dksX10_init_0 0 rfl rfl)
theorem dX10_init_1 : decode cX10_init 1 = .ok (.aload_n 1, 1) := dk_43 (dk_at dksX10_init_0 1 rfl rfl)
theorem dX10_init_2 : decode cX10_init 2 = .ok (.putfield 3, 3) := dk_181 0 3 (dk_at dksX10_init_0 2 rfl rfl)
theorem dX10_init_5 : decode cX10_init 5 = .ok (.aload_n 0, 1) := dk_42 (dk_at dksX10_init_0 5 rfl rfl)
theorem dX10_init_6 : decode cX10_init 6 = .ok (.invokespecial 9, 3) := dk_183 0 9 (dk_at dksX10_init_0 6 rfl rfl)
theorem dX10_init_9 : decode cX10_init 9 = .ok (.aload_n 0, 1) := dk_42 (dk_at dksX10_init_0 9 rfl rfl)
theorem dX10_init_10 : decode cX10_init 10 = .ok (.bipush 60, 2) := dk_16 60 (dk_at dksX10_init_0 10 rfl rfl)
theorem dX10_init_12 : decode cX10_init 12 = .ok (.anewarray 15, 3) := dk_189 0 15 (dk_at dksX10_init_0 12 rfl rfl)
theorem dX10_init_15 : decode cX10_init 15 = .ok (.putfield 17, 3) := dk_181 0 17 (dk_at dksX10_init_0 15 rfl rfl)
theorem dX10_init_18 : decode cX10_init 18 = .ok (.return_, 1) := dk_177 (dk_at dksX10_init_0 18 rfl rfl)
abbrev cX10_readAll : ByteArray := prog_11_method_2_code
def yX10_readAll : MethodName := ⟨RX10, "readAll", "()Z"⟩
def dkwX10_readAll_2 : List UInt8 := [167, 255, 215, 42, 180, 0, 24, 154, 0, 7, 4, 167, 0, 4, 3, 172]
abbrev dktX10_readAll_2 : List UInt8 := dkwX10_readAll_2 ++ []
def dkwX10_readAll_1 : List UInt8 := [182, 0, 36, 162, 0, 23, 42, 16, 59, 182, 0, 42, 42, 180, 0, 24, 154, 255, 222, 42, 182, 0, 21]
abbrev dktX10_readAll_1 : List UInt8 := dkwX10_readAll_1 ++ dktX10_readAll_2
def dkwX10_readAll_0 : List UInt8 := [42, 182, 0, 21, 42, 180, 0, 24, 154, 0, 40, 42, 180, 0, 28, 42, 180, 0, 3, 180, 0, 32]
abbrev dktX10_readAll_0 : List UInt8 := dkwX10_readAll_0 ++ dktX10_readAll_1
theorem dksX10_readAll_0 : cX10_readAll.data.toList.drop 0 = dktX10_readAll_0 := by decide +kernel
theorem dksX10_readAll_1 : cX10_readAll.data.toList.drop 22 = dktX10_readAll_1 := dk_seg dksX10_readAll_0 22 rfl rfl
theorem dksX10_readAll_2 : cX10_readAll.data.toList.drop 45 = dktX10_readAll_2 := dk_seg dksX10_readAll_1 23 rfl rfl
theorem dX10_readAll_0 : decode cX10_readAll 0 = .ok (.aload_n 0, 1) := dk_42 (dk_at dksX10_readAll_0 0 rfl rfl)
theorem dX10_readAll_1 : decode cX10_readAll 1 = .ok (.invokevirtual 21, 3) := dk_182 0 21 (dk_at dksX10_readAll_0 1 rfl rfl)
theorem dX10_readAll_4 : decode cX10_readAll 4 = .ok (.aload_n 0, 1) := dk_42 (dk_at dksX10_readAll_0 4 rfl rfl)
theorem dX10_readAll_5 : decode cX10_readAll 5 = .ok (.getfield 24, 3) := dk_180 0 24 (dk_at dksX10_readAll_0 5 rfl rfl)
theorem dX10_readAll_8 : decode cX10_readAll 8 = .ok (.ifCond .ne 40, 3) := dk_154 0 40 (dk_at dksX10_readAll_0 8 rfl rfl)
theorem dX10_readAll_11 : decode cX10_readAll 11 = .ok (.aload_n 0, 1) := dk_42 (dk_at dksX10_readAll_0 11 rfl rfl)
theorem dX10_readAll_12 : decode cX10_readAll 12 = .ok (.getfield 28, 3) := dk_180 0 28 (dk_at dksX10_readAll_0 12 rfl rfl)
theorem dX10_readAll_15 : decode cX10_readAll 15 = .ok (.aload_n 0, 1) := dk_42 (dk_at dksX10_readAll_0 15 rfl rfl)
theorem dX10_readAll_16 : decode cX10_readAll 16 = .ok (.getfield 3, 3) := dk_180 0 3 (dk_at dksX10_readAll_0 16 rfl rfl)
theorem dX10_readAll_19 : decode cX10_readAll 19 = .ok (.getfield 32, 3) := dk_180 0 32 (dk_at dksX10_readAll_0 19 rfl rfl)
theorem dX10_readAll_22 : decode cX10_readAll 22 = .ok (.invokevirtual 36, 3) := dk_182 0 36 (dk_at dksX10_readAll_1 0 rfl rfl)
theorem dX10_readAll_25 : decode cX10_readAll 25 = .ok (.if_icmp .ge 23, 3) := dk_162 0 23 (dk_at dksX10_readAll_1 3 rfl rfl)
theorem dX10_readAll_28 : decode cX10_readAll 28 = .ok (.aload_n 0, 1) := dk_42 (dk_at dksX10_readAll_1 6 rfl rfl)
theorem dX10_readAll_29 : decode cX10_readAll 29 = .ok (.bipush 59, 2) := dk_16 59 (dk_at dksX10_readAll_1 7 rfl rfl)
theorem dX10_readAll_31 : decode cX10_readAll 31 = .ok (.invokevirtual 42, 3) := dk_182 0 42 (dk_at dksX10_readAll_1 9 rfl rfl)
theorem dX10_readAll_34 : decode cX10_readAll 34 = .ok (.aload_n 0, 1) := dk_42 (dk_at dksX10_readAll_1 12 rfl rfl)
theorem dX10_readAll_35 : decode cX10_readAll 35 = .ok (.getfield 24, 3) := dk_180 0 24 (dk_at dksX10_readAll_1 13 rfl rfl)
theorem dX10_readAll_38 : decode cX10_readAll 38 = .ok (.ifCond .ne (-34), 3) := dk_154 255 222 (dk_at dksX10_readAll_1 16 rfl rfl)
theorem dX10_readAll_41 : decode cX10_readAll 41 = .ok (.aload_n 0, 1) := dk_42 (dk_at dksX10_readAll_1 19 rfl rfl)
theorem dX10_readAll_42 : decode cX10_readAll 42 = .ok (.invokevirtual 21, 3) := dk_182 0 21 (dk_at dksX10_readAll_1 20 rfl rfl)
theorem dX10_readAll_45 : decode cX10_readAll 45 = .ok (.goto (-41), 3) := dk_167 255 215 (dk_at dksX10_readAll_2 0 rfl rfl)
theorem dX10_readAll_48 : decode cX10_readAll 48 = .ok (.aload_n 0, 1) := dk_42 (dk_at dksX10_readAll_2 3 rfl rfl)
theorem dX10_readAll_49 : decode cX10_readAll 49 = .ok (.getfield 24, 3) := dk_180 0 24 (dk_at dksX10_readAll_2 4 rfl rfl)
theorem dX10_readAll_52 : decode cX10_readAll 52 = .ok (.ifCond .ne 7, 3) := dk_154 0 7 (dk_at dksX10_readAll_2 7 rfl rfl)
theorem dX10_readAll_55 : decode cX10_readAll 55 = .ok (.iconst 1, 1) := dk_4 (dk_at dksX10_readAll_2 10 rfl rfl)
theorem dX10_readAll_56 : decode cX10_readAll 56 = .ok (.goto 4, 3) := dk_167 0 4 (dk_at dksX10_readAll_2 11 rfl rfl)
theorem dX10_readAll_59 : decode cX10_readAll 59 = .ok (.iconst 0, 1) := dk_3 (dk_at dksX10_readAll_2 14 rfl rfl)
theorem dX10_readAll_60 : decode cX10_readAll 60 = .ok (.ireturn, 1) := dk_172 (dk_at dksX10_readAll_2 15 rfl rfl)
abbrev cX10_order : ByteArray := prog_11_method_7_code
def yX10_order : MethodName := ⟨RX10, "order", "()V"⟩
def dkwX10_order_11 : List UInt8 := [180, 0, 83, 4, 96, 181, 0, 83, 177]
abbrev dktX10_order_11 : List UInt8 := dkwX10_order_11 ++ []
def dkwX10_order_10 : List UInt8 := [181, 0, 24, 42, 180, 0, 24, 154, 0, 23, 42, 180, 0, 17, 42, 180, 0, 83, 44, 83, 42, 89]
abbrev dktX10_order_10 : List UInt8 := dkwX10_order_10 ++ dktX10_order_11
def dkwX10_order_9 : List UInt8 := [180, 0, 28, 4, 96, 181, 0, 28, 42, 42, 6, 182, 0, 54, 182, 0, 80, 77, 167, 0, 8, 42, 4]
abbrev dktX10_order_9 : List UInt8 := dkwX10_order_9 ++ dktX10_order_10
def dkwX10_order_8 : List UInt8 := [180, 0, 28, 4, 96, 181, 0, 28, 42, 42, 8, 182, 0, 54, 182, 0, 77, 77, 167, 0, 31, 42, 89]
abbrev dktX10_order_8 : List UInt8 := dkwX10_order_8 ++ dktX10_order_9
def dkwX10_order_7 : List UInt8 := [180, 0, 28, 4, 96, 181, 0, 28, 42, 42, 6, 182, 0, 54, 182, 0, 74, 77, 167, 0, 54, 42, 89]
abbrev dktX10_order_7 : List UInt8 := dkwX10_order_7 ++ dktX10_order_8
def dkwX10_order_6 : List UInt8 := [180, 0, 28, 4, 96, 181, 0, 28, 42, 42, 6, 182, 0, 54, 182, 0, 71, 77, 167, 0, 77, 42, 89]
abbrev dktX10_order_6 : List UInt8 := dkwX10_order_6 ++ dktX10_order_7
def dkwX10_order_5 : List UInt8 := [180, 0, 28, 4, 96, 181, 0, 28, 42, 42, 6, 182, 0, 54, 182, 0, 68, 77, 167, 0, 100, 42, 89]
abbrev dktX10_order_5 : List UInt8 := dkwX10_order_5 ++ dktX10_order_6
def dkwX10_order_4 : List UInt8 := [180, 0, 28, 4, 96, 181, 0, 28, 42, 42, 6, 182, 0, 54, 182, 0, 65, 77, 167, 0, 123, 42, 89]
abbrev dktX10_order_4 : List UInt8 := dkwX10_order_4 ++ dktX10_order_5
def dkwX10_order_3 : List UInt8 := [89, 180, 0, 28, 4, 96, 181, 0, 28, 42, 42, 6, 182, 0, 54, 182, 0, 62, 77, 167, 0, 146, 42, 89]
abbrev dktX10_order_3 : List UInt8 := dkwX10_order_3 ++ dktX10_order_4
def dkwX10_order_2 : List UInt8 := [42, 89, 180, 0, 28, 4, 96, 181, 0, 28, 42, 42, 6, 182, 0, 54, 182, 0, 58, 77, 167, 0, 169, 42]
abbrev dktX10_order_2 : List UInt8 := dkwX10_order_2 ++ dktX10_order_3
def dkwX10_order_1 : List UInt8 := [170, 0, 0, 0, 0, 0, 1, 28, 0, 0, 0, 99, 0, 0, 0, 119, 0, 0, 0, 238, 0, 0, 1, 28, 0, 0, 1, 28, 0, 0, 1, 5, 0, 0, 1, 28, 0, 0, 1, 28, 0, 0, 1, 28, 0, 0, 1, 28, 0, 0, 1, 28, 0, 0, 1, 28, 0, 0, 0, 100, 0, 0, 1, 28, 0, 0, 1, 28, 0, 0, 1, 28, 0, 0, 1, 28, 0, 0, 0, 192, 0, 0, 0, 146, 0, 0, 1, 28, 0, 0, 0, 123, 0, 0, 0, 215, 0, 0, 0, 169]
abbrev dktX10_order_1 : List UInt8 := dkwX10_order_1 ++ dktX10_order_2
def dkwX10_order_0 : List UInt8 := [42, 182, 0, 50, 60, 1, 77, 27]
abbrev dktX10_order_0 : List UInt8 := dkwX10_order_0 ++ dktX10_order_1
theorem dksX10_order_0 : cX10_order.data.toList.drop 0 = dktX10_order_0 := by decide +kernel
theorem dksX10_order_1 : cX10_order.data.toList.drop 8 = dktX10_order_1 := dk_seg dksX10_order_0 8 rfl rfl
theorem dksX10_order_2 : cX10_order.data.toList.drop 108 = dktX10_order_2 := dk_seg dksX10_order_1 100 rfl rfl
theorem dksX10_order_3 : cX10_order.data.toList.drop 132 = dktX10_order_3 := dk_seg dksX10_order_2 24 rfl rfl
theorem dksX10_order_4 : cX10_order.data.toList.drop 156 = dktX10_order_4 := dk_seg dksX10_order_3 24 rfl rfl
theorem dksX10_order_5 : cX10_order.data.toList.drop 179 = dktX10_order_5 := dk_seg dksX10_order_4 23 rfl rfl
theorem dksX10_order_6 : cX10_order.data.toList.drop 202 = dktX10_order_6 := dk_seg dksX10_order_5 23 rfl rfl
theorem dksX10_order_7 : cX10_order.data.toList.drop 225 = dktX10_order_7 := dk_seg dksX10_order_6 23 rfl rfl
theorem dksX10_order_8 : cX10_order.data.toList.drop 248 = dktX10_order_8 := dk_seg dksX10_order_7 23 rfl rfl
theorem dksX10_order_9 : cX10_order.data.toList.drop 271 = dktX10_order_9 := dk_seg dksX10_order_8 23 rfl rfl
theorem dksX10_order_10 : cX10_order.data.toList.drop 294 = dktX10_order_10 := dk_seg dksX10_order_9 23 rfl rfl
theorem dksX10_order_11 : cX10_order.data.toList.drop 316 = dktX10_order_11 := dk_seg dksX10_order_10 22 rfl rfl
theorem dX10_order_0 : decode cX10_order 0 = .ok (.aload_n 0, 1) := dk_42 (dk_at dksX10_order_0 0 rfl rfl)
theorem dX10_order_1 : decode cX10_order 1 = .ok (.invokevirtual 50, 3) := dk_182 0 50 (dk_at dksX10_order_0 1 rfl rfl)
theorem dX10_order_4 : decode cX10_order 4 = .ok (.istore_n 1, 1) := dk_60 (dk_at dksX10_order_0 4 rfl rfl)
theorem dX10_order_5 : decode cX10_order 5 = .ok (.aconst_null, 1) := dk_1 (dk_at dksX10_order_0 5 rfl rfl)
theorem dX10_order_6 : decode cX10_order 6 = .ok (.astore_n 2, 1) := dk_77 (dk_at dksX10_order_0 6 rfl rfl)
theorem dX10_order_7 : decode cX10_order 7 = .ok (.iload_n 1, 1) := dk_27 (dk_at dksX10_order_0 7 rfl rfl)
theorem dX10_order_8 : decode cX10_order 8 = .ok (.tableswitch 284 99 119 #[238, 284, 284, 261, 284, 284, 284, 284, 284, 284, 100, 284, 284, 284, 284, 192, 146, 284, 123, 215, 169], 100) := by decide +kernel
theorem dX10_order_108 : decode cX10_order 108 = .ok (.aload_n 0, 1) := dk_42 (dk_at dksX10_order_2 0 rfl rfl)
theorem dX10_order_109 : decode cX10_order 109 = .ok (.dup, 1) := dk_89 (dk_at dksX10_order_2 1 rfl rfl)
theorem dX10_order_110 : decode cX10_order 110 = .ok (.getfield 28, 3) := dk_180 0 28 (dk_at dksX10_order_2 2 rfl rfl)
theorem dX10_order_113 : decode cX10_order 113 = .ok (.iconst 1, 1) := dk_4 (dk_at dksX10_order_2 5 rfl rfl)
theorem dX10_order_114 : decode cX10_order 114 = .ok (.iadd, 1) := dk_96 (dk_at dksX10_order_2 6 rfl rfl)
theorem dX10_order_115 : decode cX10_order 115 = .ok (.putfield 28, 3) := dk_181 0 28 (dk_at dksX10_order_2 7 rfl rfl)
theorem dX10_order_118 : decode cX10_order 118 = .ok (.aload_n 0, 1) := dk_42 (dk_at dksX10_order_2 10 rfl rfl)
theorem dX10_order_119 : decode cX10_order 119 = .ok (.aload_n 0, 1) := dk_42 (dk_at dksX10_order_2 11 rfl rfl)
theorem dX10_order_120 : decode cX10_order 120 = .ok (.iconst 3, 1) := dk_6 (dk_at dksX10_order_2 12 rfl rfl)
theorem dX10_order_121 : decode cX10_order 121 = .ok (.invokevirtual 54, 3) := dk_182 0 54 (dk_at dksX10_order_2 13 rfl rfl)
theorem dX10_order_124 : decode cX10_order 124 = .ok (.invokevirtual 58, 3) := dk_182 0 58 (dk_at dksX10_order_2 16 rfl rfl)
theorem dX10_order_127 : decode cX10_order 127 = .ok (.astore_n 2, 1) := dk_77 (dk_at dksX10_order_2 19 rfl rfl)
theorem dX10_order_128 : decode cX10_order 128 = .ok (.goto 169, 3) := dk_167 0 169 (dk_at dksX10_order_2 20 rfl rfl)
theorem dX10_order_131 : decode cX10_order 131 = .ok (.aload_n 0, 1) := dk_42 (dk_at dksX10_order_2 23 rfl rfl)
theorem dX10_order_132 : decode cX10_order 132 = .ok (.dup, 1) := dk_89 (dk_at dksX10_order_3 0 rfl rfl)
theorem dX10_order_133 : decode cX10_order 133 = .ok (.getfield 28, 3) := dk_180 0 28 (dk_at dksX10_order_3 1 rfl rfl)
theorem dX10_order_136 : decode cX10_order 136 = .ok (.iconst 1, 1) := dk_4 (dk_at dksX10_order_3 4 rfl rfl)
theorem dX10_order_137 : decode cX10_order 137 = .ok (.iadd, 1) := dk_96 (dk_at dksX10_order_3 5 rfl rfl)
theorem dX10_order_138 : decode cX10_order 138 = .ok (.putfield 28, 3) := dk_181 0 28 (dk_at dksX10_order_3 6 rfl rfl)
theorem dX10_order_141 : decode cX10_order 141 = .ok (.aload_n 0, 1) := dk_42 (dk_at dksX10_order_3 9 rfl rfl)
theorem dX10_order_142 : decode cX10_order 142 = .ok (.aload_n 0, 1) := dk_42 (dk_at dksX10_order_3 10 rfl rfl)
theorem dX10_order_143 : decode cX10_order 143 = .ok (.iconst 3, 1) := dk_6 (dk_at dksX10_order_3 11 rfl rfl)
theorem dX10_order_144 : decode cX10_order 144 = .ok (.invokevirtual 54, 3) := dk_182 0 54 (dk_at dksX10_order_3 12 rfl rfl)
theorem dX10_order_147 : decode cX10_order 147 = .ok (.invokevirtual 62, 3) := dk_182 0 62 (dk_at dksX10_order_3 15 rfl rfl)
theorem dX10_order_150 : decode cX10_order 150 = .ok (.astore_n 2, 1) := dk_77 (dk_at dksX10_order_3 18 rfl rfl)
theorem dX10_order_151 : decode cX10_order 151 = .ok (.goto 146, 3) := dk_167 0 146 (dk_at dksX10_order_3 19 rfl rfl)
theorem dX10_order_154 : decode cX10_order 154 = .ok (.aload_n 0, 1) := dk_42 (dk_at dksX10_order_3 22 rfl rfl)
theorem dX10_order_155 : decode cX10_order 155 = .ok (.dup, 1) := dk_89 (dk_at dksX10_order_3 23 rfl rfl)
theorem dX10_order_156 : decode cX10_order 156 = .ok (.getfield 28, 3) := dk_180 0 28 (dk_at dksX10_order_4 0 rfl rfl)
theorem dX10_order_159 : decode cX10_order 159 = .ok (.iconst 1, 1) := dk_4 (dk_at dksX10_order_4 3 rfl rfl)
theorem dX10_order_160 : decode cX10_order 160 = .ok (.iadd, 1) := dk_96 (dk_at dksX10_order_4 4 rfl rfl)
theorem dX10_order_161 : decode cX10_order 161 = .ok (.putfield 28, 3) := dk_181 0 28 (dk_at dksX10_order_4 5 rfl rfl)
theorem dX10_order_164 : decode cX10_order 164 = .ok (.aload_n 0, 1) := dk_42 (dk_at dksX10_order_4 8 rfl rfl)
theorem dX10_order_165 : decode cX10_order 165 = .ok (.aload_n 0, 1) := dk_42 (dk_at dksX10_order_4 9 rfl rfl)
theorem dX10_order_166 : decode cX10_order 166 = .ok (.iconst 3, 1) := dk_6 (dk_at dksX10_order_4 10 rfl rfl)
theorem dX10_order_167 : decode cX10_order 167 = .ok (.invokevirtual 54, 3) := dk_182 0 54 (dk_at dksX10_order_4 11 rfl rfl)
theorem dX10_order_170 : decode cX10_order 170 = .ok (.invokevirtual 65, 3) := dk_182 0 65 (dk_at dksX10_order_4 14 rfl rfl)
theorem dX10_order_173 : decode cX10_order 173 = .ok (.astore_n 2, 1) := dk_77 (dk_at dksX10_order_4 17 rfl rfl)
theorem dX10_order_174 : decode cX10_order 174 = .ok (.goto 123, 3) := dk_167 0 123 (dk_at dksX10_order_4 18 rfl rfl)
theorem dX10_order_177 : decode cX10_order 177 = .ok (.aload_n 0, 1) := dk_42 (dk_at dksX10_order_4 21 rfl rfl)
theorem dX10_order_178 : decode cX10_order 178 = .ok (.dup, 1) := dk_89 (dk_at dksX10_order_4 22 rfl rfl)
theorem dX10_order_179 : decode cX10_order 179 = .ok (.getfield 28, 3) := dk_180 0 28 (dk_at dksX10_order_5 0 rfl rfl)
theorem dX10_order_182 : decode cX10_order 182 = .ok (.iconst 1, 1) := dk_4 (dk_at dksX10_order_5 3 rfl rfl)
theorem dX10_order_183 : decode cX10_order 183 = .ok (.iadd, 1) := dk_96 (dk_at dksX10_order_5 4 rfl rfl)
theorem dX10_order_184 : decode cX10_order 184 = .ok (.putfield 28, 3) := dk_181 0 28 (dk_at dksX10_order_5 5 rfl rfl)
theorem dX10_order_187 : decode cX10_order 187 = .ok (.aload_n 0, 1) := dk_42 (dk_at dksX10_order_5 8 rfl rfl)
theorem dX10_order_188 : decode cX10_order 188 = .ok (.aload_n 0, 1) := dk_42 (dk_at dksX10_order_5 9 rfl rfl)
theorem dX10_order_189 : decode cX10_order 189 = .ok (.iconst 3, 1) := dk_6 (dk_at dksX10_order_5 10 rfl rfl)
theorem dX10_order_190 : decode cX10_order 190 = .ok (.invokevirtual 54, 3) := dk_182 0 54 (dk_at dksX10_order_5 11 rfl rfl)
theorem dX10_order_193 : decode cX10_order 193 = .ok (.invokevirtual 68, 3) := dk_182 0 68 (dk_at dksX10_order_5 14 rfl rfl)
theorem dX10_order_196 : decode cX10_order 196 = .ok (.astore_n 2, 1) := dk_77 (dk_at dksX10_order_5 17 rfl rfl)
theorem dX10_order_197 : decode cX10_order 197 = .ok (.goto 100, 3) := dk_167 0 100 (dk_at dksX10_order_5 18 rfl rfl)
theorem dX10_order_200 : decode cX10_order 200 = .ok (.aload_n 0, 1) := dk_42 (dk_at dksX10_order_5 21 rfl rfl)
theorem dX10_order_201 : decode cX10_order 201 = .ok (.dup, 1) := dk_89 (dk_at dksX10_order_5 22 rfl rfl)
theorem dX10_order_202 : decode cX10_order 202 = .ok (.getfield 28, 3) := dk_180 0 28 (dk_at dksX10_order_6 0 rfl rfl)
theorem dX10_order_205 : decode cX10_order 205 = .ok (.iconst 1, 1) := dk_4 (dk_at dksX10_order_6 3 rfl rfl)
theorem dX10_order_206 : decode cX10_order 206 = .ok (.iadd, 1) := dk_96 (dk_at dksX10_order_6 4 rfl rfl)
theorem dX10_order_207 : decode cX10_order 207 = .ok (.putfield 28, 3) := dk_181 0 28 (dk_at dksX10_order_6 5 rfl rfl)
theorem dX10_order_210 : decode cX10_order 210 = .ok (.aload_n 0, 1) := dk_42 (dk_at dksX10_order_6 8 rfl rfl)
theorem dX10_order_211 : decode cX10_order 211 = .ok (.aload_n 0, 1) := dk_42 (dk_at dksX10_order_6 9 rfl rfl)
theorem dX10_order_212 : decode cX10_order 212 = .ok (.iconst 3, 1) := dk_6 (dk_at dksX10_order_6 10 rfl rfl)
theorem dX10_order_213 : decode cX10_order 213 = .ok (.invokevirtual 54, 3) := dk_182 0 54 (dk_at dksX10_order_6 11 rfl rfl)
theorem dX10_order_216 : decode cX10_order 216 = .ok (.invokevirtual 71, 3) := dk_182 0 71 (dk_at dksX10_order_6 14 rfl rfl)
theorem dX10_order_219 : decode cX10_order 219 = .ok (.astore_n 2, 1) := dk_77 (dk_at dksX10_order_6 17 rfl rfl)
theorem dX10_order_220 : decode cX10_order 220 = .ok (.goto 77, 3) := dk_167 0 77 (dk_at dksX10_order_6 18 rfl rfl)
theorem dX10_order_223 : decode cX10_order 223 = .ok (.aload_n 0, 1) := dk_42 (dk_at dksX10_order_6 21 rfl rfl)
theorem dX10_order_224 : decode cX10_order 224 = .ok (.dup, 1) := dk_89 (dk_at dksX10_order_6 22 rfl rfl)
theorem dX10_order_225 : decode cX10_order 225 = .ok (.getfield 28, 3) := dk_180 0 28 (dk_at dksX10_order_7 0 rfl rfl)
theorem dX10_order_228 : decode cX10_order 228 = .ok (.iconst 1, 1) := dk_4 (dk_at dksX10_order_7 3 rfl rfl)
theorem dX10_order_229 : decode cX10_order 229 = .ok (.iadd, 1) := dk_96 (dk_at dksX10_order_7 4 rfl rfl)
theorem dX10_order_230 : decode cX10_order 230 = .ok (.putfield 28, 3) := dk_181 0 28 (dk_at dksX10_order_7 5 rfl rfl)
theorem dX10_order_233 : decode cX10_order 233 = .ok (.aload_n 0, 1) := dk_42 (dk_at dksX10_order_7 8 rfl rfl)
theorem dX10_order_234 : decode cX10_order 234 = .ok (.aload_n 0, 1) := dk_42 (dk_at dksX10_order_7 9 rfl rfl)
theorem dX10_order_235 : decode cX10_order 235 = .ok (.iconst 3, 1) := dk_6 (dk_at dksX10_order_7 10 rfl rfl)
theorem dX10_order_236 : decode cX10_order 236 = .ok (.invokevirtual 54, 3) := dk_182 0 54 (dk_at dksX10_order_7 11 rfl rfl)
theorem dX10_order_239 : decode cX10_order 239 = .ok (.invokevirtual 74, 3) := dk_182 0 74 (dk_at dksX10_order_7 14 rfl rfl)
theorem dX10_order_242 : decode cX10_order 242 = .ok (.astore_n 2, 1) := dk_77 (dk_at dksX10_order_7 17 rfl rfl)
theorem dX10_order_243 : decode cX10_order 243 = .ok (.goto 54, 3) := dk_167 0 54 (dk_at dksX10_order_7 18 rfl rfl)
theorem dX10_order_246 : decode cX10_order 246 = .ok (.aload_n 0, 1) := dk_42 (dk_at dksX10_order_7 21 rfl rfl)
theorem dX10_order_247 : decode cX10_order 247 = .ok (.dup, 1) := dk_89 (dk_at dksX10_order_7 22 rfl rfl)
theorem dX10_order_248 : decode cX10_order 248 = .ok (.getfield 28, 3) := dk_180 0 28 (dk_at dksX10_order_8 0 rfl rfl)
theorem dX10_order_251 : decode cX10_order 251 = .ok (.iconst 1, 1) := dk_4 (dk_at dksX10_order_8 3 rfl rfl)
theorem dX10_order_252 : decode cX10_order 252 = .ok (.iadd, 1) := dk_96 (dk_at dksX10_order_8 4 rfl rfl)
theorem dX10_order_253 : decode cX10_order 253 = .ok (.putfield 28, 3) := dk_181 0 28 (dk_at dksX10_order_8 5 rfl rfl)
theorem dX10_order_256 : decode cX10_order 256 = .ok (.aload_n 0, 1) := dk_42 (dk_at dksX10_order_8 8 rfl rfl)
theorem dX10_order_257 : decode cX10_order 257 = .ok (.aload_n 0, 1) := dk_42 (dk_at dksX10_order_8 9 rfl rfl)
theorem dX10_order_258 : decode cX10_order 258 = .ok (.iconst 5, 1) := dk_8 (dk_at dksX10_order_8 10 rfl rfl)
theorem dX10_order_259 : decode cX10_order 259 = .ok (.invokevirtual 54, 3) := dk_182 0 54 (dk_at dksX10_order_8 11 rfl rfl)
theorem dX10_order_262 : decode cX10_order 262 = .ok (.invokevirtual 77, 3) := dk_182 0 77 (dk_at dksX10_order_8 14 rfl rfl)
theorem dX10_order_265 : decode cX10_order 265 = .ok (.astore_n 2, 1) := dk_77 (dk_at dksX10_order_8 17 rfl rfl)
theorem dX10_order_266 : decode cX10_order 266 = .ok (.goto 31, 3) := dk_167 0 31 (dk_at dksX10_order_8 18 rfl rfl)
theorem dX10_order_269 : decode cX10_order 269 = .ok (.aload_n 0, 1) := dk_42 (dk_at dksX10_order_8 21 rfl rfl)
theorem dX10_order_270 : decode cX10_order 270 = .ok (.dup, 1) := dk_89 (dk_at dksX10_order_8 22 rfl rfl)
theorem dX10_order_271 : decode cX10_order 271 = .ok (.getfield 28, 3) := dk_180 0 28 (dk_at dksX10_order_9 0 rfl rfl)
theorem dX10_order_274 : decode cX10_order 274 = .ok (.iconst 1, 1) := dk_4 (dk_at dksX10_order_9 3 rfl rfl)
theorem dX10_order_275 : decode cX10_order 275 = .ok (.iadd, 1) := dk_96 (dk_at dksX10_order_9 4 rfl rfl)
theorem dX10_order_276 : decode cX10_order 276 = .ok (.putfield 28, 3) := dk_181 0 28 (dk_at dksX10_order_9 5 rfl rfl)
theorem dX10_order_279 : decode cX10_order 279 = .ok (.aload_n 0, 1) := dk_42 (dk_at dksX10_order_9 8 rfl rfl)
theorem dX10_order_280 : decode cX10_order 280 = .ok (.aload_n 0, 1) := dk_42 (dk_at dksX10_order_9 9 rfl rfl)
theorem dX10_order_281 : decode cX10_order 281 = .ok (.iconst 3, 1) := dk_6 (dk_at dksX10_order_9 10 rfl rfl)
theorem dX10_order_282 : decode cX10_order 282 = .ok (.invokevirtual 54, 3) := dk_182 0 54 (dk_at dksX10_order_9 11 rfl rfl)
theorem dX10_order_285 : decode cX10_order 285 = .ok (.invokevirtual 80, 3) := dk_182 0 80 (dk_at dksX10_order_9 14 rfl rfl)
theorem dX10_order_288 : decode cX10_order 288 = .ok (.astore_n 2, 1) := dk_77 (dk_at dksX10_order_9 17 rfl rfl)
theorem dX10_order_289 : decode cX10_order 289 = .ok (.goto 8, 3) := dk_167 0 8 (dk_at dksX10_order_9 18 rfl rfl)
theorem dX10_order_292 : decode cX10_order 292 = .ok (.aload_n 0, 1) := dk_42 (dk_at dksX10_order_9 21 rfl rfl)
theorem dX10_order_293 : decode cX10_order 293 = .ok (.iconst 1, 1) := dk_4 (dk_at dksX10_order_9 22 rfl rfl)
theorem dX10_order_294 : decode cX10_order 294 = .ok (.putfield 24, 3) := dk_181 0 24 (dk_at dksX10_order_10 0 rfl rfl)
theorem dX10_order_297 : decode cX10_order 297 = .ok (.aload_n 0, 1) := dk_42 (dk_at dksX10_order_10 3 rfl rfl)
theorem dX10_order_298 : decode cX10_order 298 = .ok (.getfield 24, 3) := dk_180 0 24 (dk_at dksX10_order_10 4 rfl rfl)
theorem dX10_order_301 : decode cX10_order 301 = .ok (.ifCond .ne 23, 3) := dk_154 0 23 (dk_at dksX10_order_10 7 rfl rfl)
theorem dX10_order_304 : decode cX10_order 304 = .ok (.aload_n 0, 1) := dk_42 (dk_at dksX10_order_10 10 rfl rfl)
theorem dX10_order_305 : decode cX10_order 305 = .ok (.getfield 17, 3) := dk_180 0 17 (dk_at dksX10_order_10 11 rfl rfl)
theorem dX10_order_308 : decode cX10_order 308 = .ok (.aload_n 0, 1) := dk_42 (dk_at dksX10_order_10 14 rfl rfl)
theorem dX10_order_309 : decode cX10_order 309 = .ok (.getfield 83, 3) := dk_180 0 83 (dk_at dksX10_order_10 15 rfl rfl)
theorem dX10_order_312 : decode cX10_order 312 = .ok (.aload_n 2, 1) := dk_44 (dk_at dksX10_order_10 18 rfl rfl)
theorem dX10_order_313 : decode cX10_order 313 = .ok (.aastore, 1) := dk_83 (dk_at dksX10_order_10 19 rfl rfl)
theorem dX10_order_314 : decode cX10_order 314 = .ok (.aload_n 0, 1) := dk_42 (dk_at dksX10_order_10 20 rfl rfl)
theorem dX10_order_315 : decode cX10_order 315 = .ok (.dup, 1) := dk_89 (dk_at dksX10_order_10 21 rfl rfl)
theorem dX10_order_316 : decode cX10_order 316 = .ok (.getfield 83, 3) := dk_180 0 83 (dk_at dksX10_order_11 0 rfl rfl)
theorem dX10_order_319 : decode cX10_order 319 = .ok (.iconst 1, 1) := dk_4 (dk_at dksX10_order_11 3 rfl rfl)
theorem dX10_order_320 : decode cX10_order 320 = .ok (.iadd, 1) := dk_96 (dk_at dksX10_order_11 4 rfl rfl)
theorem dX10_order_321 : decode cX10_order 321 = .ok (.putfield 83, 3) := dk_181 0 83 (dk_at dksX10_order_11 5 rfl rfl)
theorem dX10_order_324 : decode cX10_order 324 = .ok (.return_, 1) := dk_177 (dk_at dksX10_order_11 8 rfl rfl)
abbrev cX10_next : ByteArray := prog_11_method_3_code
def yX10_next : MethodName := ⟨RX10, "next", "()C"⟩
def dkwX10_next_1 : List UInt8 := [42, 180, 0, 28, 182, 0, 46, 167, 0, 5, 16, 32, 172]
abbrev dktX10_next_1 : List UInt8 := dkwX10_next_1 ++ []
def dkwX10_next_0 : List UInt8 := [42, 180, 0, 28, 42, 180, 0, 3, 180, 0, 32, 182, 0, 36, 162, 0, 20, 42, 180, 0, 3, 180, 0, 32]
abbrev dktX10_next_0 : List UInt8 := dkwX10_next_0 ++ dktX10_next_1
theorem dksX10_next_0 : cX10_next.data.toList.drop 0 = dktX10_next_0 := by decide +kernel
theorem dksX10_next_1 : cX10_next.data.toList.drop 24 = dktX10_next_1 := dk_seg dksX10_next_0 24 rfl rfl
theorem dX10_next_0 : decode cX10_next 0 = .ok (.aload_n 0, 1) := dk_42 (dk_at dksX10_next_0 0 rfl rfl)
theorem dX10_next_1 : decode cX10_next 1 = .ok (.getfield 28, 3) := dk_180 0 28 (dk_at dksX10_next_0 1 rfl rfl)
theorem dX10_next_4 : decode cX10_next 4 = .ok (.aload_n 0, 1) := dk_42 (dk_at dksX10_next_0 4 rfl rfl)
theorem dX10_next_5 : decode cX10_next 5 = .ok (.getfield 3, 3) := dk_180 0 3 (dk_at dksX10_next_0 5 rfl rfl)
theorem dX10_next_8 : decode cX10_next 8 = .ok (.getfield 32, 3) := dk_180 0 32 (dk_at dksX10_next_0 8 rfl rfl)
theorem dX10_next_11 : decode cX10_next 11 = .ok (.invokevirtual 36, 3) := dk_182 0 36 (dk_at dksX10_next_0 11 rfl rfl)
theorem dX10_next_14 : decode cX10_next 14 = .ok (.if_icmp .ge 20, 3) := dk_162 0 20 (dk_at dksX10_next_0 14 rfl rfl)
theorem dX10_next_17 : decode cX10_next 17 = .ok (.aload_n 0, 1) := dk_42 (dk_at dksX10_next_0 17 rfl rfl)
theorem dX10_next_18 : decode cX10_next 18 = .ok (.getfield 3, 3) := dk_180 0 3 (dk_at dksX10_next_0 18 rfl rfl)
theorem dX10_next_21 : decode cX10_next 21 = .ok (.getfield 32, 3) := dk_180 0 32 (dk_at dksX10_next_0 21 rfl rfl)
theorem dX10_next_24 : decode cX10_next 24 = .ok (.aload_n 0, 1) := dk_42 (dk_at dksX10_next_1 0 rfl rfl)
theorem dX10_next_25 : decode cX10_next 25 = .ok (.getfield 28, 3) := dk_180 0 28 (dk_at dksX10_next_1 1 rfl rfl)
theorem dX10_next_28 : decode cX10_next 28 = .ok (.invokevirtual 46, 3) := dk_182 0 46 (dk_at dksX10_next_1 4 rfl rfl)
theorem dX10_next_31 : decode cX10_next 31 = .ok (.goto 5, 3) := dk_167 0 5 (dk_at dksX10_next_1 7 rfl rfl)
theorem dX10_next_34 : decode cX10_next 34 = .ok (.bipush 32, 2) := dk_16 32 (dk_at dksX10_next_1 10 rfl rfl)
theorem dX10_next_36 : decode cX10_next 36 = .ok (.ireturn, 1) := dk_172 (dk_at dksX10_next_1 12 rfl rfl)
abbrev cX10_number : ByteArray := prog_11_method_5_code
def yX10_number : MethodName := ⟨RX10, "number", "(I)I"⟩
def dkwX10_number_5 : List UInt8 := [42, 89, 180, 0, 28, 4, 96, 181, 0, 28, 167, 255, 188, 28, 172]
abbrev dktX10_number_5 : List UInt8 := dkwX10_number_5 ++ []
def dkwX10_number_4 : List UInt8 := [182, 0, 50, 96, 16, 48, 100, 27, 163, 0, 29, 16, 10, 28, 104, 42, 182, 0, 50, 96, 16, 48, 100, 61]
abbrev dktX10_number_4 : List UInt8 := dkwX10_number_4 ++ dktX10_number_5
def dkwX10_number_3 : List UInt8 := [182, 0, 50, 16, 48, 161, 0, 54, 42, 182, 0, 50, 16, 57, 163, 0, 45, 16, 10, 28, 104, 42]
abbrev dktX10_number_3 : List UInt8 := dkwX10_number_3 ++ dktX10_number_4
def dkwX10_number_2 : List UInt8 := [153, 0, 7, 3, 167, 0, 4, 4, 96, 181, 0, 28, 42, 180, 0, 24, 154, 0, 67, 28, 158, 0, 63, 42]
abbrev dktX10_number_2 : List UInt8 := dkwX10_number_2 ++ dktX10_number_3
def dkwX10_number_1 : List UInt8 := [27, 164, 0, 7, 4, 167, 0, 4, 3, 128, 181, 0, 24, 42, 89, 180, 0, 28, 42, 180, 0, 24]
abbrev dktX10_number_1 : List UInt8 := dkwX10_number_1 ++ dktX10_number_2
def dkwX10_number_0 : List UInt8 := [42, 182, 0, 50, 16, 48, 100, 61, 42, 89, 180, 0, 24, 28, 155, 0, 14, 28, 16, 9, 163, 0, 8, 28]
abbrev dktX10_number_0 : List UInt8 := dkwX10_number_0 ++ dktX10_number_1
theorem dksX10_number_0 : cX10_number.data.toList.drop 0 = dktX10_number_0 := by decide +kernel
theorem dksX10_number_1 : cX10_number.data.toList.drop 24 = dktX10_number_1 := dk_seg dksX10_number_0 24 rfl rfl
theorem dksX10_number_2 : cX10_number.data.toList.drop 46 = dktX10_number_2 := dk_seg dksX10_number_1 22 rfl rfl
theorem dksX10_number_3 : cX10_number.data.toList.drop 70 = dktX10_number_3 := dk_seg dksX10_number_2 24 rfl rfl
theorem dksX10_number_4 : cX10_number.data.toList.drop 92 = dktX10_number_4 := dk_seg dksX10_number_3 22 rfl rfl
theorem dksX10_number_5 : cX10_number.data.toList.drop 116 = dktX10_number_5 := dk_seg dksX10_number_4 24 rfl rfl
theorem dX10_number_0 : decode cX10_number 0 = .ok (.aload_n 0, 1) := dk_42 (dk_at dksX10_number_0 0 rfl rfl)
theorem dX10_number_1 : decode cX10_number 1 = .ok (.invokevirtual 50, 3) := dk_182 0 50 (dk_at dksX10_number_0 1 rfl rfl)
theorem dX10_number_4 : decode cX10_number 4 = .ok (.bipush 48, 2) := dk_16 48 (dk_at dksX10_number_0 4 rfl rfl)
theorem dX10_number_6 : decode cX10_number 6 = .ok (.isub, 1) := dk_100 (dk_at dksX10_number_0 6 rfl rfl)
theorem dX10_number_7 : decode cX10_number 7 = .ok (.istore_n 2, 1) := dk_61 (dk_at dksX10_number_0 7 rfl rfl)
theorem dX10_number_8 : decode cX10_number 8 = .ok (.aload_n 0, 1) := dk_42 (dk_at dksX10_number_0 8 rfl rfl)
theorem dX10_number_9 : decode cX10_number 9 = .ok (.dup, 1) := dk_89 (dk_at dksX10_number_0 9 rfl rfl)
theorem dX10_number_10 : decode cX10_number 10 = .ok (.getfield 24, 3) := dk_180 0 24 (dk_at dksX10_number_0 10 rfl rfl)
theorem dX10_number_13 : decode cX10_number 13 = .ok (.iload_n 2, 1) := dk_28 (dk_at dksX10_number_0 13 rfl rfl)
theorem dX10_number_14 : decode cX10_number 14 = .ok (.ifCond .lt 14, 3) := dk_155 0 14 (dk_at dksX10_number_0 14 rfl rfl)
theorem dX10_number_17 : decode cX10_number 17 = .ok (.iload_n 2, 1) := dk_28 (dk_at dksX10_number_0 17 rfl rfl)
theorem dX10_number_18 : decode cX10_number 18 = .ok (.bipush 9, 2) := dk_16 9 (dk_at dksX10_number_0 18 rfl rfl)
theorem dX10_number_20 : decode cX10_number 20 = .ok (.if_icmp .gt 8, 3) := dk_163 0 8 (dk_at dksX10_number_0 20 rfl rfl)
theorem dX10_number_23 : decode cX10_number 23 = .ok (.iload_n 2, 1) := dk_28 (dk_at dksX10_number_0 23 rfl rfl)
theorem dX10_number_24 : decode cX10_number 24 = .ok (.iload_n 1, 1) := dk_27 (dk_at dksX10_number_1 0 rfl rfl)
theorem dX10_number_25 : decode cX10_number 25 = .ok (.if_icmp .le 7, 3) := dk_164 0 7 (dk_at dksX10_number_1 1 rfl rfl)
theorem dX10_number_28 : decode cX10_number 28 = .ok (.iconst 1, 1) := dk_4 (dk_at dksX10_number_1 4 rfl rfl)
theorem dX10_number_29 : decode cX10_number 29 = .ok (.goto 4, 3) := dk_167 0 4 (dk_at dksX10_number_1 5 rfl rfl)
theorem dX10_number_32 : decode cX10_number 32 = .ok (.iconst 0, 1) := dk_3 (dk_at dksX10_number_1 8 rfl rfl)
theorem dX10_number_33 : decode cX10_number 33 = .ok (.ior, 1) := dk_128 (dk_at dksX10_number_1 9 rfl rfl)
theorem dX10_number_34 : decode cX10_number 34 = .ok (.putfield 24, 3) := dk_181 0 24 (dk_at dksX10_number_1 10 rfl rfl)
theorem dX10_number_37 : decode cX10_number 37 = .ok (.aload_n 0, 1) := dk_42 (dk_at dksX10_number_1 13 rfl rfl)
theorem dX10_number_38 : decode cX10_number 38 = .ok (.dup, 1) := dk_89 (dk_at dksX10_number_1 14 rfl rfl)
theorem dX10_number_39 : decode cX10_number 39 = .ok (.getfield 28, 3) := dk_180 0 28 (dk_at dksX10_number_1 15 rfl rfl)
theorem dX10_number_42 : decode cX10_number 42 = .ok (.aload_n 0, 1) := dk_42 (dk_at dksX10_number_1 18 rfl rfl)
theorem dX10_number_43 : decode cX10_number 43 = .ok (.getfield 24, 3) := dk_180 0 24 (dk_at dksX10_number_1 19 rfl rfl)
theorem dX10_number_46 : decode cX10_number 46 = .ok (.ifCond .eq 7, 3) := dk_153 0 7 (dk_at dksX10_number_2 0 rfl rfl)
theorem dX10_number_49 : decode cX10_number 49 = .ok (.iconst 0, 1) := dk_3 (dk_at dksX10_number_2 3 rfl rfl)
theorem dX10_number_50 : decode cX10_number 50 = .ok (.goto 4, 3) := dk_167 0 4 (dk_at dksX10_number_2 4 rfl rfl)
theorem dX10_number_53 : decode cX10_number 53 = .ok (.iconst 1, 1) := dk_4 (dk_at dksX10_number_2 7 rfl rfl)
theorem dX10_number_54 : decode cX10_number 54 = .ok (.iadd, 1) := dk_96 (dk_at dksX10_number_2 8 rfl rfl)
theorem dX10_number_55 : decode cX10_number 55 = .ok (.putfield 28, 3) := dk_181 0 28 (dk_at dksX10_number_2 9 rfl rfl)
theorem dX10_number_58 : decode cX10_number 58 = .ok (.aload_n 0, 1) := dk_42 (dk_at dksX10_number_2 12 rfl rfl)
theorem dX10_number_59 : decode cX10_number 59 = .ok (.getfield 24, 3) := dk_180 0 24 (dk_at dksX10_number_2 13 rfl rfl)
theorem dX10_number_62 : decode cX10_number 62 = .ok (.ifCond .ne 67, 3) := dk_154 0 67 (dk_at dksX10_number_2 16 rfl rfl)
theorem dX10_number_65 : decode cX10_number 65 = .ok (.iload_n 2, 1) := dk_28 (dk_at dksX10_number_2 19 rfl rfl)
theorem dX10_number_66 : decode cX10_number 66 = .ok (.ifCond .le 63, 3) := dk_158 0 63 (dk_at dksX10_number_2 20 rfl rfl)
theorem dX10_number_69 : decode cX10_number 69 = .ok (.aload_n 0, 1) := dk_42 (dk_at dksX10_number_2 23 rfl rfl)
theorem dX10_number_70 : decode cX10_number 70 = .ok (.invokevirtual 50, 3) := dk_182 0 50 (dk_at dksX10_number_3 0 rfl rfl)
theorem dX10_number_73 : decode cX10_number 73 = .ok (.bipush 48, 2) := dk_16 48 (dk_at dksX10_number_3 3 rfl rfl)
theorem dX10_number_75 : decode cX10_number 75 = .ok (.if_icmp .lt 54, 3) := dk_161 0 54 (dk_at dksX10_number_3 5 rfl rfl)
theorem dX10_number_78 : decode cX10_number 78 = .ok (.aload_n 0, 1) := dk_42 (dk_at dksX10_number_3 8 rfl rfl)
theorem dX10_number_79 : decode cX10_number 79 = .ok (.invokevirtual 50, 3) := dk_182 0 50 (dk_at dksX10_number_3 9 rfl rfl)
theorem dX10_number_82 : decode cX10_number 82 = .ok (.bipush 57, 2) := dk_16 57 (dk_at dksX10_number_3 12 rfl rfl)
theorem dX10_number_84 : decode cX10_number 84 = .ok (.if_icmp .gt 45, 3) := dk_163 0 45 (dk_at dksX10_number_3 14 rfl rfl)
theorem dX10_number_87 : decode cX10_number 87 = .ok (.bipush 10, 2) := dk_16 10 (dk_at dksX10_number_3 17 rfl rfl)
theorem dX10_number_89 : decode cX10_number 89 = .ok (.iload_n 2, 1) := dk_28 (dk_at dksX10_number_3 19 rfl rfl)
theorem dX10_number_90 : decode cX10_number 90 = .ok (.imul, 1) := dk_104 (dk_at dksX10_number_3 20 rfl rfl)
theorem dX10_number_91 : decode cX10_number 91 = .ok (.aload_n 0, 1) := dk_42 (dk_at dksX10_number_3 21 rfl rfl)
theorem dX10_number_92 : decode cX10_number 92 = .ok (.invokevirtual 50, 3) := dk_182 0 50 (dk_at dksX10_number_4 0 rfl rfl)
theorem dX10_number_95 : decode cX10_number 95 = .ok (.iadd, 1) := dk_96 (dk_at dksX10_number_4 3 rfl rfl)
theorem dX10_number_96 : decode cX10_number 96 = .ok (.bipush 48, 2) := dk_16 48 (dk_at dksX10_number_4 4 rfl rfl)
theorem dX10_number_98 : decode cX10_number 98 = .ok (.isub, 1) := dk_100 (dk_at dksX10_number_4 6 rfl rfl)
theorem dX10_number_99 : decode cX10_number 99 = .ok (.iload_n 1, 1) := dk_27 (dk_at dksX10_number_4 7 rfl rfl)
theorem dX10_number_100 : decode cX10_number 100 = .ok (.if_icmp .gt 29, 3) := dk_163 0 29 (dk_at dksX10_number_4 8 rfl rfl)
theorem dX10_number_103 : decode cX10_number 103 = .ok (.bipush 10, 2) := dk_16 10 (dk_at dksX10_number_4 11 rfl rfl)
theorem dX10_number_105 : decode cX10_number 105 = .ok (.iload_n 2, 1) := dk_28 (dk_at dksX10_number_4 13 rfl rfl)
theorem dX10_number_106 : decode cX10_number 106 = .ok (.imul, 1) := dk_104 (dk_at dksX10_number_4 14 rfl rfl)
theorem dX10_number_107 : decode cX10_number 107 = .ok (.aload_n 0, 1) := dk_42 (dk_at dksX10_number_4 15 rfl rfl)
theorem dX10_number_108 : decode cX10_number 108 = .ok (.invokevirtual 50, 3) := dk_182 0 50 (dk_at dksX10_number_4 16 rfl rfl)
theorem dX10_number_111 : decode cX10_number 111 = .ok (.iadd, 1) := dk_96 (dk_at dksX10_number_4 19 rfl rfl)
theorem dX10_number_112 : decode cX10_number 112 = .ok (.bipush 48, 2) := dk_16 48 (dk_at dksX10_number_4 20 rfl rfl)
theorem dX10_number_114 : decode cX10_number 114 = .ok (.isub, 1) := dk_100 (dk_at dksX10_number_4 22 rfl rfl)
theorem dX10_number_115 : decode cX10_number 115 = .ok (.istore_n 2, 1) := dk_61 (dk_at dksX10_number_4 23 rfl rfl)
theorem dX10_number_116 : decode cX10_number 116 = .ok (.aload_n 0, 1) := dk_42 (dk_at dksX10_number_5 0 rfl rfl)
theorem dX10_number_117 : decode cX10_number 117 = .ok (.dup, 1) := dk_89 (dk_at dksX10_number_5 1 rfl rfl)
theorem dX10_number_118 : decode cX10_number 118 = .ok (.getfield 28, 3) := dk_180 0 28 (dk_at dksX10_number_5 2 rfl rfl)
theorem dX10_number_121 : decode cX10_number 121 = .ok (.iconst 1, 1) := dk_4 (dk_at dksX10_number_5 5 rfl rfl)
theorem dX10_number_122 : decode cX10_number 122 = .ok (.iadd, 1) := dk_96 (dk_at dksX10_number_5 6 rfl rfl)
theorem dX10_number_123 : decode cX10_number 123 = .ok (.putfield 28, 3) := dk_181 0 28 (dk_at dksX10_number_5 7 rfl rfl)
theorem dX10_number_126 : decode cX10_number 126 = .ok (.goto (-68), 3) := dk_167 255 188 (dk_at dksX10_number_5 10 rfl rfl)
theorem dX10_number_129 : decode cX10_number 129 = .ok (.iload_n 2, 1) := dk_28 (dk_at dksX10_number_5 13 rfl rfl)
theorem dX10_number_130 : decode cX10_number 130 = .ok (.ireturn, 1) := dk_172 (dk_at dksX10_number_5 14 rfl rfl)
abbrev cX10_mounting : ByteArray := prog_11_method_8_code
def yX10_mounting : MethodName := ⟨RX10, "mounting", "(I)LDiskPacks$Order;"⟩
def dkwX10_mounting_0 : List UInt8 := [42, 16, 61, 8, 182, 0, 86, 61, 27, 28, 186, 0, 90, 0, 0, 176]
abbrev dktX10_mounting_0 : List UInt8 := dkwX10_mounting_0 ++ []
theorem dksX10_mounting_0 : cX10_mounting.data.toList.drop 0 = dktX10_mounting_0 := by decide +kernel
theorem dX10_mounting_0 : decode cX10_mounting 0 = .ok (.aload_n 0, 1) := dk_42 (dk_at dksX10_mounting_0 0 rfl rfl)
theorem dX10_mounting_1 : decode cX10_mounting 1 = .ok (.bipush 61, 2) := dk_16 61 (dk_at dksX10_mounting_0 1 rfl rfl)
theorem dX10_mounting_3 : decode cX10_mounting 3 = .ok (.iconst 5, 1) := dk_8 (dk_at dksX10_mounting_0 3 rfl rfl)
theorem dX10_mounting_4 : decode cX10_mounting 4 = .ok (.invokevirtual 86, 3) := dk_182 0 86 (dk_at dksX10_mounting_0 4 rfl rfl)
theorem dX10_mounting_7 : decode cX10_mounting 7 = .ok (.istore_n 2, 1) := dk_61 (dk_at dksX10_mounting_0 7 rfl rfl)
theorem dX10_mounting_8 : decode cX10_mounting 8 = .ok (.iload_n 1, 1) := dk_27 (dk_at dksX10_mounting_0 8 rfl rfl)
theorem dX10_mounting_9 : decode cX10_mounting 9 = .ok (.iload_n 2, 1) := dk_28 (dk_at dksX10_mounting_0 9 rfl rfl)
theorem dX10_mounting_10 : decode cX10_mounting 10 = .ok (.invokedynamic 90, 5) := by decide +kernel
theorem dX10_mounting_15 : decode cX10_mounting 15 = .ok (.areturn, 1) := dk_176 (dk_at dksX10_mounting_0 15 rfl rfl)
abbrev cX10_after : ByteArray := prog_11_method_6_code
def yX10_after : MethodName := ⟨RX10, "after", "(CI)I"⟩
def dkwX10_after_0 : List UInt8 := [42, 27, 182, 0, 42, 42, 28, 182, 0, 54, 172]
abbrev dktX10_after_0 : List UInt8 := dkwX10_after_0 ++ []
theorem dksX10_after_0 : cX10_after.data.toList.drop 0 = dktX10_after_0 := by decide +kernel
theorem dX10_after_0 : decode cX10_after 0 = .ok (.aload_n 0, 1) := dk_42 (dk_at dksX10_after_0 0 rfl rfl)
theorem dX10_after_1 : decode cX10_after 1 = .ok (.iload_n 1, 1) := dk_27 (dk_at dksX10_after_0 1 rfl rfl)
theorem dX10_after_2 : decode cX10_after 2 = .ok (.invokevirtual 42, 3) := dk_182 0 42 (dk_at dksX10_after_0 2 rfl rfl)
theorem dX10_after_5 : decode cX10_after 5 = .ok (.aload_n 0, 1) := dk_42 (dk_at dksX10_after_0 5 rfl rfl)
theorem dX10_after_6 : decode cX10_after 6 = .ok (.iload_n 2, 1) := dk_28 (dk_at dksX10_after_0 6 rfl rfl)
theorem dX10_after_7 : decode cX10_after 7 = .ok (.invokevirtual 54, 3) := dk_182 0 54 (dk_at dksX10_after_0 7 rfl rfl)
theorem dX10_after_10 : decode cX10_after 10 = .ok (.ireturn, 1) := dk_172 (dk_at dksX10_after_0 10 rfl rfl)
abbrev cX10_sign : ByteArray := prog_11_method_4_code
def yX10_sign : MethodName := ⟨RX10, "sign", "(C)V"⟩
def dkwX10_sign_1 : List UInt8 := [180, 0, 28, 42, 180, 0, 24, 153, 0, 7, 3, 167, 0, 4, 4, 96, 181, 0, 28, 177]
abbrev dktX10_sign_1 : List UInt8 := dkwX10_sign_1 ++ []
def dkwX10_sign_0 : List UInt8 := [42, 89, 180, 0, 24, 42, 182, 0, 50, 27, 159, 0, 7, 4, 167, 0, 4, 3, 128, 181, 0, 24, 42, 89]
abbrev dktX10_sign_0 : List UInt8 := dkwX10_sign_0 ++ dktX10_sign_1
theorem dksX10_sign_0 : cX10_sign.data.toList.drop 0 = dktX10_sign_0 := by decide +kernel
theorem dksX10_sign_1 : cX10_sign.data.toList.drop 24 = dktX10_sign_1 := dk_seg dksX10_sign_0 24 rfl rfl
theorem dX10_sign_0 : decode cX10_sign 0 = .ok (.aload_n 0, 1) := dk_42 (dk_at dksX10_sign_0 0 rfl rfl)
theorem dX10_sign_1 : decode cX10_sign 1 = .ok (.dup, 1) := dk_89 (dk_at dksX10_sign_0 1 rfl rfl)
theorem dX10_sign_2 : decode cX10_sign 2 = .ok (.getfield 24, 3) := dk_180 0 24 (dk_at dksX10_sign_0 2 rfl rfl)
theorem dX10_sign_5 : decode cX10_sign 5 = .ok (.aload_n 0, 1) := dk_42 (dk_at dksX10_sign_0 5 rfl rfl)
theorem dX10_sign_6 : decode cX10_sign 6 = .ok (.invokevirtual 50, 3) := dk_182 0 50 (dk_at dksX10_sign_0 6 rfl rfl)
theorem dX10_sign_9 : decode cX10_sign 9 = .ok (.iload_n 1, 1) := dk_27 (dk_at dksX10_sign_0 9 rfl rfl)
theorem dX10_sign_10 : decode cX10_sign 10 = .ok (.if_icmp .eq 7, 3) := dk_159 0 7 (dk_at dksX10_sign_0 10 rfl rfl)
theorem dX10_sign_13 : decode cX10_sign 13 = .ok (.iconst 1, 1) := dk_4 (dk_at dksX10_sign_0 13 rfl rfl)
theorem dX10_sign_14 : decode cX10_sign 14 = .ok (.goto 4, 3) := dk_167 0 4 (dk_at dksX10_sign_0 14 rfl rfl)
theorem dX10_sign_17 : decode cX10_sign 17 = .ok (.iconst 0, 1) := dk_3 (dk_at dksX10_sign_0 17 rfl rfl)
theorem dX10_sign_18 : decode cX10_sign 18 = .ok (.ior, 1) := dk_128 (dk_at dksX10_sign_0 18 rfl rfl)
theorem dX10_sign_19 : decode cX10_sign 19 = .ok (.putfield 24, 3) := dk_181 0 24 (dk_at dksX10_sign_0 19 rfl rfl)
theorem dX10_sign_22 : decode cX10_sign 22 = .ok (.aload_n 0, 1) := dk_42 (dk_at dksX10_sign_0 22 rfl rfl)
theorem dX10_sign_23 : decode cX10_sign 23 = .ok (.dup, 1) := dk_89 (dk_at dksX10_sign_0 23 rfl rfl)
theorem dX10_sign_24 : decode cX10_sign 24 = .ok (.getfield 28, 3) := dk_180 0 28 (dk_at dksX10_sign_1 0 rfl rfl)
theorem dX10_sign_27 : decode cX10_sign 27 = .ok (.aload_n 0, 1) := dk_42 (dk_at dksX10_sign_1 3 rfl rfl)
theorem dX10_sign_28 : decode cX10_sign 28 = .ok (.getfield 24, 3) := dk_180 0 24 (dk_at dksX10_sign_1 4 rfl rfl)
theorem dX10_sign_31 : decode cX10_sign 31 = .ok (.ifCond .eq 7, 3) := dk_153 0 7 (dk_at dksX10_sign_1 7 rfl rfl)
theorem dX10_sign_34 : decode cX10_sign 34 = .ok (.iconst 0, 1) := dk_3 (dk_at dksX10_sign_1 10 rfl rfl)
theorem dX10_sign_35 : decode cX10_sign 35 = .ok (.goto 4, 3) := dk_167 0 4 (dk_at dksX10_sign_1 11 rfl rfl)
theorem dX10_sign_38 : decode cX10_sign 38 = .ok (.iconst 1, 1) := dk_4 (dk_at dksX10_sign_1 14 rfl rfl)
theorem dX10_sign_39 : decode cX10_sign 39 = .ok (.iadd, 1) := dk_96 (dk_at dksX10_sign_1 15 rfl rfl)
theorem dX10_sign_40 : decode cX10_sign 40 = .ok (.putfield 28, 3) := dk_181 0 28 (dk_at dksX10_sign_1 16 rfl rfl)
theorem dX10_sign_43 : decode cX10_sign 43 = .ok (.return_, 1) := dk_177 (dk_at dksX10_sign_1 19 rfl rfl)
abbrev cX10_lambda_mounting_0 : ByteArray := prog_11_method_24_code
def yX10_lambda_mounting_0 : MethodName := ⟨RX10, "lambda$mounting$0", "(IILDiskPacks$State;)Z"⟩
def dkwX10_lambda_mounting_0_0 : List UInt8 := [44, 26, 27, 182, 0, 140, 172]
abbrev dktX10_lambda_mounting_0_0 : List UInt8 := dkwX10_lambda_mounting_0_0 ++ []
theorem dksX10_lambda_mounting_0_0 : cX10_lambda_mounting_0.data.toList.drop 0 = dktX10_lambda_mounting_0_0 := by decide +kernel
theorem dX10_lambda_mounting_0_0 : decode cX10_lambda_mounting_0 0 = .ok (.aload_n 2, 1) := dk_44 (dk_at dksX10_lambda_mounting_0_0 0 rfl rfl)
theorem dX10_lambda_mounting_0_1 : decode cX10_lambda_mounting_0 1 = .ok (.iload_n 0, 1) := dk_26 (dk_at dksX10_lambda_mounting_0_0 1 rfl rfl)
theorem dX10_lambda_mounting_0_2 : decode cX10_lambda_mounting_0 2 = .ok (.iload_n 1, 1) := dk_27 (dk_at dksX10_lambda_mounting_0_0 2 rfl rfl)
theorem dX10_lambda_mounting_0_3 : decode cX10_lambda_mounting_0 3 = .ok (.invokevirtual 140, 3) := dk_182 0 140 (dk_at dksX10_lambda_mounting_0_0 3 rfl rfl)
theorem dX10_lambda_mounting_0_6 : decode cX10_lambda_mounting_0 6 = .ok (.ireturn, 1) := dk_172 (dk_at dksX10_lambda_mounting_0_0 6 rfl rfl)
abbrev cX10_unmounting : ByteArray := prog_11_method_9_code
def yX10_unmounting : MethodName := ⟨RX10, "unmounting", "(I)LDiskPacks$Order;"⟩
theorem dX10_unmounting_0 : decode cX10_unmounting 0 = .ok (.iload_n 1, 1) := by decide +kernel
theorem dX10_unmounting_1 : decode cX10_unmounting 1 = .ok (.invokedynamic 94, 5) := by decide +kernel
theorem dX10_unmounting_6 : decode cX10_unmounting 6 = .ok (.areturn, 1) := by decide +kernel
abbrev cX10_lambda_unmounting_1 : ByteArray := prog_11_method_23_code
def yX10_lambda_unmounting_1 : MethodName := ⟨RX10, "lambda$unmounting$1", "(ILDiskPacks$State;)Z"⟩
def dkwX10_lambda_unmounting_1_0 : List UInt8 := [43, 26, 182, 0, 137, 172]
abbrev dktX10_lambda_unmounting_1_0 : List UInt8 := dkwX10_lambda_unmounting_1_0 ++ []
theorem dksX10_lambda_unmounting_1_0 : cX10_lambda_unmounting_1.data.toList.drop 0 = dktX10_lambda_unmounting_1_0 := by decide +kernel
theorem dX10_lambda_unmounting_1_0 : decode cX10_lambda_unmounting_1 0 = .ok (.aload_n 1, 1) := dk_43 (dk_at dksX10_lambda_unmounting_1_0 0 rfl rfl)
theorem dX10_lambda_unmounting_1_1 : decode cX10_lambda_unmounting_1 1 = .ok (.iload_n 0, 1) := dk_26 (dk_at dksX10_lambda_unmounting_1_0 1 rfl rfl)
theorem dX10_lambda_unmounting_1_2 : decode cX10_lambda_unmounting_1 2 = .ok (.invokevirtual 137, 3) := dk_182 0 137 (dk_at dksX10_lambda_unmounting_1_0 2 rfl rfl)
theorem dX10_lambda_unmounting_1_5 : decode cX10_lambda_unmounting_1 5 = .ok (.ireturn, 1) := dk_172 (dk_at dksX10_lambda_unmounting_1_0 5 rfl rfl)
abbrev cX10_seeking : ByteArray := prog_11_method_10_code
def yX10_seeking : MethodName := ⟨RX10, "seeking", "(I)LDiskPacks$Order;"⟩
def dkwX10_seeking_0 : List UInt8 := [42, 16, 58, 16, 39, 182, 0, 86, 61, 27, 28, 186, 0, 96, 0, 0, 176]
abbrev dktX10_seeking_0 : List UInt8 := dkwX10_seeking_0 ++ []
theorem dksX10_seeking_0 : cX10_seeking.data.toList.drop 0 = dktX10_seeking_0 := by decide +kernel
theorem dX10_seeking_0 : decode cX10_seeking 0 = .ok (.aload_n 0, 1) := dk_42 (dk_at dksX10_seeking_0 0 rfl rfl)
theorem dX10_seeking_1 : decode cX10_seeking 1 = .ok (.bipush 58, 2) := dk_16 58 (dk_at dksX10_seeking_0 1 rfl rfl)
theorem dX10_seeking_3 : decode cX10_seeking 3 = .ok (.bipush 39, 2) := dk_16 39 (dk_at dksX10_seeking_0 3 rfl rfl)
theorem dX10_seeking_5 : decode cX10_seeking 5 = .ok (.invokevirtual 86, 3) := dk_182 0 86 (dk_at dksX10_seeking_0 5 rfl rfl)
theorem dX10_seeking_8 : decode cX10_seeking 8 = .ok (.istore_n 2, 1) := dk_61 (dk_at dksX10_seeking_0 8 rfl rfl)
theorem dX10_seeking_9 : decode cX10_seeking 9 = .ok (.iload_n 1, 1) := dk_27 (dk_at dksX10_seeking_0 9 rfl rfl)
theorem dX10_seeking_10 : decode cX10_seeking 10 = .ok (.iload_n 2, 1) := dk_28 (dk_at dksX10_seeking_0 10 rfl rfl)
theorem dX10_seeking_11 : decode cX10_seeking 11 = .ok (.invokedynamic 96, 5) := by decide +kernel
theorem dX10_seeking_16 : decode cX10_seeking 16 = .ok (.areturn, 1) := dk_176 (dk_at dksX10_seeking_0 16 rfl rfl)
abbrev cX10_lambda_seeking_2 : ByteArray := prog_11_method_22_code
def yX10_lambda_seeking_2 : MethodName := ⟨RX10, "lambda$seeking$2", "(IILDiskPacks$State;)Z"⟩
def dkwX10_lambda_seeking_2_0 : List UInt8 := [44, 26, 27, 182, 0, 134, 172]
abbrev dktX10_lambda_seeking_2_0 : List UInt8 := dkwX10_lambda_seeking_2_0 ++ []
theorem dksX10_lambda_seeking_2_0 : cX10_lambda_seeking_2.data.toList.drop 0 = dktX10_lambda_seeking_2_0 := by decide +kernel
theorem dX10_lambda_seeking_2_0 : decode cX10_lambda_seeking_2 0 = .ok (.aload_n 2, 1) := dk_44 (dk_at dksX10_lambda_seeking_2_0 0 rfl rfl)
theorem dX10_lambda_seeking_2_1 : decode cX10_lambda_seeking_2 1 = .ok (.iload_n 0, 1) := dk_26 (dk_at dksX10_lambda_seeking_2_0 1 rfl rfl)
theorem dX10_lambda_seeking_2_2 : decode cX10_lambda_seeking_2 2 = .ok (.iload_n 1, 1) := dk_27 (dk_at dksX10_lambda_seeking_2_0 2 rfl rfl)
theorem dX10_lambda_seeking_2_3 : decode cX10_lambda_seeking_2 3 = .ok (.invokevirtual 134, 3) := dk_182 0 134 (dk_at dksX10_lambda_seeking_2_0 3 rfl rfl)
theorem dX10_lambda_seeking_2_6 : decode cX10_lambda_seeking_2 6 = .ok (.ireturn, 1) := dk_172 (dk_at dksX10_lambda_seeking_2_0 6 rfl rfl)
abbrev cX10_writing : ByteArray := prog_11_method_11_code
def yX10_writing : MethodName := ⟨RX10, "writing", "(I)LDiskPacks$Order;"⟩
def dkwX10_writing_1 : List UInt8 := [186, 0, 97, 0, 0, 176]
abbrev dktX10_writing_1 : List UInt8 := dkwX10_writing_1 ++ []
def dkwX10_writing_0 : List UInt8 := [42, 16, 46, 5, 182, 0, 86, 61, 42, 16, 61, 17, 3, 231, 182, 0, 86, 62, 27, 28, 29]
abbrev dktX10_writing_0 : List UInt8 := dkwX10_writing_0 ++ dktX10_writing_1
theorem dksX10_writing_0 : cX10_writing.data.toList.drop 0 = dktX10_writing_0 := by decide +kernel
theorem dksX10_writing_1 : cX10_writing.data.toList.drop 21 = dktX10_writing_1 := dk_seg dksX10_writing_0 21 rfl rfl
theorem dX10_writing_0 : decode cX10_writing 0 = .ok (.aload_n 0, 1) := dk_42 (dk_at dksX10_writing_0 0 rfl rfl)
theorem dX10_writing_1 : decode cX10_writing 1 = .ok (.bipush 46, 2) := dk_16 46 (dk_at dksX10_writing_0 1 rfl rfl)
theorem dX10_writing_3 : decode cX10_writing 3 = .ok (.iconst 2, 1) := dk_5 (dk_at dksX10_writing_0 3 rfl rfl)
theorem dX10_writing_4 : decode cX10_writing 4 = .ok (.invokevirtual 86, 3) := dk_182 0 86 (dk_at dksX10_writing_0 4 rfl rfl)
theorem dX10_writing_7 : decode cX10_writing 7 = .ok (.istore_n 2, 1) := dk_61 (dk_at dksX10_writing_0 7 rfl rfl)
theorem dX10_writing_8 : decode cX10_writing 8 = .ok (.aload_n 0, 1) := dk_42 (dk_at dksX10_writing_0 8 rfl rfl)
theorem dX10_writing_9 : decode cX10_writing 9 = .ok (.bipush 61, 2) := dk_16 61 (dk_at dksX10_writing_0 9 rfl rfl)
theorem dX10_writing_11 : decode cX10_writing 11 = .ok (.sipush 999, 3) := dk_17 3 231 (dk_at dksX10_writing_0 11 rfl rfl)
theorem dX10_writing_14 : decode cX10_writing 14 = .ok (.invokevirtual 86, 3) := dk_182 0 86 (dk_at dksX10_writing_0 14 rfl rfl)
theorem dX10_writing_17 : decode cX10_writing 17 = .ok (.istore_n 3, 1) := dk_62 (dk_at dksX10_writing_0 17 rfl rfl)
theorem dX10_writing_18 : decode cX10_writing 18 = .ok (.iload_n 1, 1) := dk_27 (dk_at dksX10_writing_0 18 rfl rfl)
theorem dX10_writing_19 : decode cX10_writing 19 = .ok (.iload_n 2, 1) := dk_28 (dk_at dksX10_writing_0 19 rfl rfl)
theorem dX10_writing_20 : decode cX10_writing 20 = .ok (.iload_n 3, 1) := dk_29 (dk_at dksX10_writing_0 20 rfl rfl)
theorem dX10_writing_21 : decode cX10_writing 21 = .ok (.invokedynamic 97, 5) := by decide +kernel
theorem dX10_writing_26 : decode cX10_writing 26 = .ok (.areturn, 1) := dk_176 (dk_at dksX10_writing_1 5 rfl rfl)
abbrev cX10_lambda_writing_3 : ByteArray := prog_11_method_21_code
def yX10_lambda_writing_3 : MethodName := ⟨RX10, "lambda$writing$3", "(IIILDiskPacks$State;)Z"⟩
def dkwX10_lambda_writing_3_0 : List UInt8 := [45, 26, 27, 28, 182, 0, 130, 172]
abbrev dktX10_lambda_writing_3_0 : List UInt8 := dkwX10_lambda_writing_3_0 ++ []
theorem dksX10_lambda_writing_3_0 : cX10_lambda_writing_3.data.toList.drop 0 = dktX10_lambda_writing_3_0 := by decide +kernel
theorem dX10_lambda_writing_3_0 : decode cX10_lambda_writing_3 0 = .ok (.aload_n 3, 1) := dk_45 (dk_at dksX10_lambda_writing_3_0 0 rfl rfl)
theorem dX10_lambda_writing_3_1 : decode cX10_lambda_writing_3 1 = .ok (.iload_n 0, 1) := dk_26 (dk_at dksX10_lambda_writing_3_0 1 rfl rfl)
theorem dX10_lambda_writing_3_2 : decode cX10_lambda_writing_3 2 = .ok (.iload_n 1, 1) := dk_27 (dk_at dksX10_lambda_writing_3_0 2 rfl rfl)
theorem dX10_lambda_writing_3_3 : decode cX10_lambda_writing_3 3 = .ok (.iload_n 2, 1) := dk_28 (dk_at dksX10_lambda_writing_3_0 3 rfl rfl)
theorem dX10_lambda_writing_3_4 : decode cX10_lambda_writing_3 4 = .ok (.invokevirtual 130, 3) := dk_182 0 130 (dk_at dksX10_lambda_writing_3_0 4 rfl rfl)
theorem dX10_lambda_writing_3_7 : decode cX10_lambda_writing_3 7 = .ok (.ireturn, 1) := dk_172 (dk_at dksX10_lambda_writing_3_0 7 rfl rfl)
abbrev cX10_reading : ByteArray := prog_11_method_12_code
def yX10_reading : MethodName := ⟨RX10, "reading", "(I)LDiskPacks$Order;"⟩
def dkwX10_reading_0 : List UInt8 := [42, 16, 46, 5, 182, 0, 86, 61, 27, 28, 186, 0, 100, 0, 0, 176]
abbrev dktX10_reading_0 : List UInt8 := dkwX10_reading_0 ++ []
theorem dksX10_reading_0 : cX10_reading.data.toList.drop 0 = dktX10_reading_0 := by decide +kernel
theorem dX10_reading_0 : decode cX10_reading 0 = .ok (.aload_n 0, 1) := dk_42 (dk_at dksX10_reading_0 0 rfl rfl)
theorem dX10_reading_1 : decode cX10_reading 1 = .ok (.bipush 46, 2) := dk_16 46 (dk_at dksX10_reading_0 1 rfl rfl)
theorem dX10_reading_3 : decode cX10_reading 3 = .ok (.iconst 2, 1) := dk_5 (dk_at dksX10_reading_0 3 rfl rfl)
theorem dX10_reading_4 : decode cX10_reading 4 = .ok (.invokevirtual 86, 3) := dk_182 0 86 (dk_at dksX10_reading_0 4 rfl rfl)
theorem dX10_reading_7 : decode cX10_reading 7 = .ok (.istore_n 2, 1) := dk_61 (dk_at dksX10_reading_0 7 rfl rfl)
theorem dX10_reading_8 : decode cX10_reading 8 = .ok (.iload_n 1, 1) := dk_27 (dk_at dksX10_reading_0 8 rfl rfl)
theorem dX10_reading_9 : decode cX10_reading 9 = .ok (.iload_n 2, 1) := dk_28 (dk_at dksX10_reading_0 9 rfl rfl)
theorem dX10_reading_10 : decode cX10_reading 10 = .ok (.invokedynamic 100, 5) := by decide +kernel
theorem dX10_reading_15 : decode cX10_reading 15 = .ok (.areturn, 1) := dk_176 (dk_at dksX10_reading_0 15 rfl rfl)
abbrev cX10_lambda_reading_4 : ByteArray := prog_11_method_20_code
def yX10_lambda_reading_4 : MethodName := ⟨RX10, "lambda$reading$4", "(IILDiskPacks$State;)Z"⟩
def dkwX10_lambda_reading_4_0 : List UInt8 := [44, 26, 182, 0, 123, 62, 44, 26, 27, 182, 0, 126, 87, 29, 172]
abbrev dktX10_lambda_reading_4_0 : List UInt8 := dkwX10_lambda_reading_4_0 ++ []
theorem dksX10_lambda_reading_4_0 : cX10_lambda_reading_4.data.toList.drop 0 = dktX10_lambda_reading_4_0 := by decide +kernel
theorem dX10_lambda_reading_4_0 : decode cX10_lambda_reading_4 0 = .ok (.aload_n 2, 1) := dk_44 (dk_at dksX10_lambda_reading_4_0 0 rfl rfl)
theorem dX10_lambda_reading_4_1 : decode cX10_lambda_reading_4 1 = .ok (.iload_n 0, 1) := dk_26 (dk_at dksX10_lambda_reading_4_0 1 rfl rfl)
theorem dX10_lambda_reading_4_2 : decode cX10_lambda_reading_4 2 = .ok (.invokevirtual 123, 3) := dk_182 0 123 (dk_at dksX10_lambda_reading_4_0 2 rfl rfl)
theorem dX10_lambda_reading_4_5 : decode cX10_lambda_reading_4 5 = .ok (.istore_n 3, 1) := dk_62 (dk_at dksX10_lambda_reading_4_0 5 rfl rfl)
theorem dX10_lambda_reading_4_6 : decode cX10_lambda_reading_4 6 = .ok (.aload_n 2, 1) := dk_44 (dk_at dksX10_lambda_reading_4_0 6 rfl rfl)
theorem dX10_lambda_reading_4_7 : decode cX10_lambda_reading_4 7 = .ok (.iload_n 0, 1) := dk_26 (dk_at dksX10_lambda_reading_4_0 7 rfl rfl)
theorem dX10_lambda_reading_4_8 : decode cX10_lambda_reading_4 8 = .ok (.iload_n 1, 1) := dk_27 (dk_at dksX10_lambda_reading_4_0 8 rfl rfl)
theorem dX10_lambda_reading_4_9 : decode cX10_lambda_reading_4 9 = .ok (.invokevirtual 126, 3) := dk_182 0 126 (dk_at dksX10_lambda_reading_4_0 9 rfl rfl)
theorem dX10_lambda_reading_4_12 : decode cX10_lambda_reading_4 12 = .ok (.pop, 1) := dk_87 (dk_at dksX10_lambda_reading_4_0 12 rfl rfl)
theorem dX10_lambda_reading_4_13 : decode cX10_lambda_reading_4 13 = .ok (.iload_n 3, 1) := dk_29 (dk_at dksX10_lambda_reading_4_0 13 rfl rfl)
theorem dX10_lambda_reading_4_14 : decode cX10_lambda_reading_4 14 = .ok (.ireturn, 1) := dk_172 (dk_at dksX10_lambda_reading_4_0 14 rfl rfl)
abbrev cX10_turning : ByteArray := prog_11_method_13_code
def yX10_turning : MethodName := ⟨RX10, "turning", "(I)LDiskPacks$Order;"⟩
def dkwX10_turning_1 : List UInt8 := [167, 0, 5, 16, 45, 182, 0, 42, 27, 28, 186, 0, 101, 0, 0, 176]
abbrev dktX10_turning_1 : List UInt8 := dkwX10_turning_1 ++ []
def dkwX10_turning_0 : List UInt8 := [42, 182, 0, 50, 16, 43, 160, 0, 7, 4, 167, 0, 4, 3, 61, 42, 28, 153, 0, 8, 16, 43]
abbrev dktX10_turning_0 : List UInt8 := dkwX10_turning_0 ++ dktX10_turning_1
theorem dksX10_turning_0 : cX10_turning.data.toList.drop 0 = dktX10_turning_0 := by decide +kernel
theorem dksX10_turning_1 : cX10_turning.data.toList.drop 22 = dktX10_turning_1 := dk_seg dksX10_turning_0 22 rfl rfl
theorem dX10_turning_0 : decode cX10_turning 0 = .ok (.aload_n 0, 1) := dk_42 (dk_at dksX10_turning_0 0 rfl rfl)
theorem dX10_turning_1 : decode cX10_turning 1 = .ok (.invokevirtual 50, 3) := dk_182 0 50 (dk_at dksX10_turning_0 1 rfl rfl)
theorem dX10_turning_4 : decode cX10_turning 4 = .ok (.bipush 43, 2) := dk_16 43 (dk_at dksX10_turning_0 4 rfl rfl)
theorem dX10_turning_6 : decode cX10_turning 6 = .ok (.if_icmp .ne 7, 3) := dk_160 0 7 (dk_at dksX10_turning_0 6 rfl rfl)
theorem dX10_turning_9 : decode cX10_turning 9 = .ok (.iconst 1, 1) := dk_4 (dk_at dksX10_turning_0 9 rfl rfl)
theorem dX10_turning_10 : decode cX10_turning 10 = .ok (.goto 4, 3) := dk_167 0 4 (dk_at dksX10_turning_0 10 rfl rfl)
theorem dX10_turning_13 : decode cX10_turning 13 = .ok (.iconst 0, 1) := dk_3 (dk_at dksX10_turning_0 13 rfl rfl)
theorem dX10_turning_14 : decode cX10_turning 14 = .ok (.istore_n 2, 1) := dk_61 (dk_at dksX10_turning_0 14 rfl rfl)
theorem dX10_turning_15 : decode cX10_turning 15 = .ok (.aload_n 0, 1) := dk_42 (dk_at dksX10_turning_0 15 rfl rfl)
theorem dX10_turning_16 : decode cX10_turning 16 = .ok (.iload_n 2, 1) := dk_28 (dk_at dksX10_turning_0 16 rfl rfl)
theorem dX10_turning_17 : decode cX10_turning 17 = .ok (.ifCond .eq 8, 3) := dk_153 0 8 (dk_at dksX10_turning_0 17 rfl rfl)
theorem dX10_turning_20 : decode cX10_turning 20 = .ok (.bipush 43, 2) := dk_16 43 (dk_at dksX10_turning_0 20 rfl rfl)
theorem dX10_turning_22 : decode cX10_turning 22 = .ok (.goto 5, 3) := dk_167 0 5 (dk_at dksX10_turning_1 0 rfl rfl)
theorem dX10_turning_25 : decode cX10_turning 25 = .ok (.bipush 45, 2) := dk_16 45 (dk_at dksX10_turning_1 3 rfl rfl)
theorem dX10_turning_27 : decode cX10_turning 27 = .ok (.invokevirtual 42, 3) := dk_182 0 42 (dk_at dksX10_turning_1 5 rfl rfl)
theorem dX10_turning_30 : decode cX10_turning 30 = .ok (.iload_n 1, 1) := dk_27 (dk_at dksX10_turning_1 8 rfl rfl)
theorem dX10_turning_31 : decode cX10_turning 31 = .ok (.iload_n 2, 1) := dk_28 (dk_at dksX10_turning_1 9 rfl rfl)
theorem dX10_turning_32 : decode cX10_turning 32 = .ok (.invokedynamic 101, 5) := by decide +kernel
theorem dX10_turning_37 : decode cX10_turning 37 = .ok (.areturn, 1) := dk_176 (dk_at dksX10_turning_1 15 rfl rfl)
abbrev cX10_lambda_turning_5 : ByteArray := prog_11_method_19_code
def yX10_lambda_turning_5 : MethodName := ⟨RX10, "lambda$turning$5", "(IZLDiskPacks$State;)Z"⟩
def dkwX10_lambda_turning_5_0 : List UInt8 := [44, 26, 27, 182, 0, 119, 172]
abbrev dktX10_lambda_turning_5_0 : List UInt8 := dkwX10_lambda_turning_5_0 ++ []
theorem dksX10_lambda_turning_5_0 : cX10_lambda_turning_5.data.toList.drop 0 = dktX10_lambda_turning_5_0 := by decide +kernel
theorem dX10_lambda_turning_5_0 : decode cX10_lambda_turning_5 0 = .ok (.aload_n 2, 1) := dk_44 (dk_at dksX10_lambda_turning_5_0 0 rfl rfl)
theorem dX10_lambda_turning_5_1 : decode cX10_lambda_turning_5 1 = .ok (.iload_n 0, 1) := dk_26 (dk_at dksX10_lambda_turning_5_0 1 rfl rfl)
theorem dX10_lambda_turning_5_2 : decode cX10_lambda_turning_5 2 = .ok (.iload_n 1, 1) := dk_27 (dk_at dksX10_lambda_turning_5_0 2 rfl rfl)
theorem dX10_lambda_turning_5_3 : decode cX10_lambda_turning_5 3 = .ok (.invokevirtual 119, 3) := dk_182 0 119 (dk_at dksX10_lambda_turning_5_0 3 rfl rfl)
theorem dX10_lambda_turning_5_6 : decode cX10_lambda_turning_5 6 = .ok (.ireturn, 1) := dk_172 (dk_at dksX10_lambda_turning_5_0 6 rfl rfl)
abbrev cX10_polishing : ByteArray := prog_11_method_14_code
def yX10_polishing : MethodName := ⟨RX10, "polishing", "(I)LDiskPacks$Order;"⟩
theorem dX10_polishing_0 : decode cX10_polishing 0 = .ok (.iload_n 1, 1) := by decide +kernel
theorem dX10_polishing_1 : decode cX10_polishing 1 = .ok (.invokedynamic 104, 5) := by decide +kernel
theorem dX10_polishing_6 : decode cX10_polishing 6 = .ok (.areturn, 1) := by decide +kernel
abbrev cX10_lambda_polishing_6 : ByteArray := prog_11_method_18_code
def yX10_lambda_polishing_6 : MethodName := ⟨RX10, "lambda$polishing$6", "(ILDiskPacks$State;)Z"⟩
def dkwX10_lambda_polishing_6_0 : List UInt8 := [43, 26, 182, 0, 115, 172]
abbrev dktX10_lambda_polishing_6_0 : List UInt8 := dkwX10_lambda_polishing_6_0 ++ []
theorem dksX10_lambda_polishing_6_0 : cX10_lambda_polishing_6.data.toList.drop 0 = dktX10_lambda_polishing_6_0 := by decide +kernel
theorem dX10_lambda_polishing_6_0 : decode cX10_lambda_polishing_6 0 = .ok (.aload_n 1, 1) := dk_43 (dk_at dksX10_lambda_polishing_6_0 0 rfl rfl)
theorem dX10_lambda_polishing_6_1 : decode cX10_lambda_polishing_6 1 = .ok (.iload_n 0, 1) := dk_26 (dk_at dksX10_lambda_polishing_6_0 1 rfl rfl)
theorem dX10_lambda_polishing_6_2 : decode cX10_lambda_polishing_6 2 = .ok (.invokevirtual 115, 3) := dk_182 0 115 (dk_at dksX10_lambda_polishing_6_0 2 rfl rfl)
theorem dX10_lambda_polishing_6_5 : decode cX10_lambda_polishing_6 5 = .ok (.ireturn, 1) := dk_172 (dk_at dksX10_lambda_polishing_6_0 5 rfl rfl)
abbrev cX10_mending : ByteArray := prog_11_method_15_code
def yX10_mending : MethodName := ⟨RX10, "mending", "(I)LDiskPacks$Order;"⟩
def dkwX10_mending_0 : List UInt8 := [42, 16, 46, 6, 182, 0, 86, 61, 27, 28, 186, 0, 105, 0, 0, 176]
abbrev dktX10_mending_0 : List UInt8 := dkwX10_mending_0 ++ []
theorem dksX10_mending_0 : cX10_mending.data.toList.drop 0 = dktX10_mending_0 := by decide +kernel
theorem dX10_mending_0 : decode cX10_mending 0 = .ok (.aload_n 0, 1) := dk_42 (dk_at dksX10_mending_0 0 rfl rfl)
theorem dX10_mending_1 : decode cX10_mending 1 = .ok (.bipush 46, 2) := dk_16 46 (dk_at dksX10_mending_0 1 rfl rfl)
theorem dX10_mending_3 : decode cX10_mending 3 = .ok (.iconst 3, 1) := dk_6 (dk_at dksX10_mending_0 3 rfl rfl)
theorem dX10_mending_4 : decode cX10_mending 4 = .ok (.invokevirtual 86, 3) := dk_182 0 86 (dk_at dksX10_mending_0 4 rfl rfl)
theorem dX10_mending_7 : decode cX10_mending 7 = .ok (.istore_n 2, 1) := dk_61 (dk_at dksX10_mending_0 7 rfl rfl)
theorem dX10_mending_8 : decode cX10_mending 8 = .ok (.iload_n 1, 1) := dk_27 (dk_at dksX10_mending_0 8 rfl rfl)
theorem dX10_mending_9 : decode cX10_mending 9 = .ok (.iload_n 2, 1) := dk_28 (dk_at dksX10_mending_0 9 rfl rfl)
theorem dX10_mending_10 : decode cX10_mending 10 = .ok (.invokedynamic 105, 5) := by decide +kernel
theorem dX10_mending_15 : decode cX10_mending 15 = .ok (.areturn, 1) := dk_176 (dk_at dksX10_mending_0 15 rfl rfl)
abbrev cX10_lambda_mending_7 : ByteArray := prog_11_method_17_code
def yX10_lambda_mending_7 : MethodName := ⟨RX10, "lambda$mending$7", "(IILDiskPacks$State;)Z"⟩
def dkwX10_lambda_mending_7_0 : List UInt8 := [44, 26, 27, 182, 0, 109, 172]
abbrev dktX10_lambda_mending_7_0 : List UInt8 := dkwX10_lambda_mending_7_0 ++ []
theorem dksX10_lambda_mending_7_0 : cX10_lambda_mending_7.data.toList.drop 0 = dktX10_lambda_mending_7_0 := by decide +kernel
theorem dX10_lambda_mending_7_0 : decode cX10_lambda_mending_7 0 = .ok (.aload_n 2, 1) := dk_44 (dk_at dksX10_lambda_mending_7_0 0 rfl rfl)
theorem dX10_lambda_mending_7_1 : decode cX10_lambda_mending_7 1 = .ok (.iload_n 0, 1) := dk_26 (dk_at dksX10_lambda_mending_7_0 1 rfl rfl)
theorem dX10_lambda_mending_7_2 : decode cX10_lambda_mending_7 2 = .ok (.iload_n 1, 1) := dk_27 (dk_at dksX10_lambda_mending_7_0 2 rfl rfl)
theorem dX10_lambda_mending_7_3 : decode cX10_lambda_mending_7 3 = .ok (.invokevirtual 109, 3) := dk_182 0 109 (dk_at dksX10_lambda_mending_7_0 3 rfl rfl)
theorem dX10_lambda_mending_7_6 : decode cX10_lambda_mending_7 6 = .ok (.ireturn, 1) := dk_172 (dk_at dksX10_lambda_mending_7_0 6 rfl rfl)
abbrev cX10_carryOut : ByteArray := prog_11_method_16_code
def yX10_carryOut : MethodName := ⟨RX10, "carryOut", "(LDiskPacks$State;)I"⟩
def dkwX10_carryOut_1 : List UInt8 := [153, 0, 9, 132, 2, 1, 167, 255, 230, 28, 172]
abbrev dktX10_carryOut_1 : List UInt8 := dkwX10_carryOut_1 ++ []
def dkwX10_carryOut_0 : List UInt8 := [3, 61, 28, 42, 180, 0, 83, 162, 0, 24, 42, 180, 0, 17, 28, 50, 43, 185, 0, 106, 2, 0]
abbrev dktX10_carryOut_0 : List UInt8 := dkwX10_carryOut_0 ++ dktX10_carryOut_1
theorem dksX10_carryOut_0 : cX10_carryOut.data.toList.drop 0 = dktX10_carryOut_0 := by decide +kernel
theorem dksX10_carryOut_1 : cX10_carryOut.data.toList.drop 22 = dktX10_carryOut_1 := dk_seg dksX10_carryOut_0 22 rfl rfl
theorem dX10_carryOut_0 : decode cX10_carryOut 0 = .ok (.iconst 0, 1) := dk_3 (dk_at dksX10_carryOut_0 0 rfl rfl)
theorem dX10_carryOut_1 : decode cX10_carryOut 1 = .ok (.istore_n 2, 1) := dk_61 (dk_at dksX10_carryOut_0 1 rfl rfl)
theorem dX10_carryOut_2 : decode cX10_carryOut 2 = .ok (.iload_n 2, 1) := dk_28 (dk_at dksX10_carryOut_0 2 rfl rfl)
theorem dX10_carryOut_3 : decode cX10_carryOut 3 = .ok (.aload_n 0, 1) := dk_42 (dk_at dksX10_carryOut_0 3 rfl rfl)
theorem dX10_carryOut_4 : decode cX10_carryOut 4 = .ok (.getfield 83, 3) := dk_180 0 83 (dk_at dksX10_carryOut_0 4 rfl rfl)
theorem dX10_carryOut_7 : decode cX10_carryOut 7 = .ok (.if_icmp .ge 24, 3) := dk_162 0 24 (dk_at dksX10_carryOut_0 7 rfl rfl)
theorem dX10_carryOut_10 : decode cX10_carryOut 10 = .ok (.aload_n 0, 1) := dk_42 (dk_at dksX10_carryOut_0 10 rfl rfl)
theorem dX10_carryOut_11 : decode cX10_carryOut 11 = .ok (.getfield 17, 3) := dk_180 0 17 (dk_at dksX10_carryOut_0 11 rfl rfl)
theorem dX10_carryOut_14 : decode cX10_carryOut 14 = .ok (.iload_n 2, 1) := dk_28 (dk_at dksX10_carryOut_0 14 rfl rfl)
theorem dX10_carryOut_15 : decode cX10_carryOut 15 = .ok (.aaload, 1) := dk_50 (dk_at dksX10_carryOut_0 15 rfl rfl)
theorem dX10_carryOut_16 : decode cX10_carryOut 16 = .ok (.aload_n 1, 1) := dk_43 (dk_at dksX10_carryOut_0 16 rfl rfl)
theorem dX10_carryOut_17 : decode cX10_carryOut 17 = .ok (.invokeinterface 106 2, 5) := by decide +kernel
theorem dX10_carryOut_22 : decode cX10_carryOut 22 = .ok (.ifCond .eq 9, 3) := dk_153 0 9 (dk_at dksX10_carryOut_1 0 rfl rfl)
theorem dX10_carryOut_25 : decode cX10_carryOut 25 = .ok (.iinc 2 1, 3) := dk_132 2 1 (dk_at dksX10_carryOut_1 3 rfl rfl)
theorem dX10_carryOut_28 : decode cX10_carryOut 28 = .ok (.goto (-26), 3) := dk_167 255 230 (dk_at dksX10_carryOut_1 6 rfl rfl)
theorem dX10_carryOut_31 : decode cX10_carryOut 31 = .ok (.iload_n 2, 1) := dk_28 (dk_at dksX10_carryOut_1 9 rfl rfl)
theorem dX10_carryOut_32 : decode cX10_carryOut 32 = .ok (.ireturn, 1) := dk_172 (dk_at dksX10_carryOut_1 10 rfl rfl)
theorem q106 : (Jvm.Cond.initialized "DiskPacks$TextReader") ∈ lw_all := lw_g (lw_at lw_m1 37 rfl) rfl
theorem q388 : (Jvm.Cond.fieldLinkNest "DiskPacks$TextReader" (32 : Nat) "DiskPacks" "buffer" "Ljava/lang/StringBuilder;" "DiskPacks") ∈ lw_tbl := lw_at lw_m2 79 rfl
theorem q731 : (Jvm.Cond.instantiable "DiskPacks$TextReader" (5 : Nat)) ∈ lw_all := lw_g (lw_at lw_m3 182 rfl) rfl
theorem q733 : (Jvm.Cond.instanceMethod ({ cls := "DiskPacks$TextReader", name := "<init>", desc := "(LDiskPacks;)V" } : Jvm.MethodName)) ∈ lw_all := lw_g (lw_at lw_m3 184 rfl) rfl
theorem q734 : (Jvm.Cond.code ({ cls := "DiskPacks$TextReader", name := "<init>", desc := "(LDiskPacks;)V" } : Jvm.MethodName) prog_11_method_1_code (2 : Nat) (Option.none : Option Jvm.ClassFile.FieldType)) ∈ lw_all := lw_g (lw_at lw_m3 185 rfl) rfl
theorem q735 : (Jvm.Cond.methodLink "DiskPacks$TextReader" (9 : Nat) ({ cls := "java/lang/Object", name := "<init>", desc := "()V" } : Jvm.MethodName)) ∈ lw_all := lw_g (lw_at lw_m3 186 rfl) rfl
theorem q736 : (Jvm.Cond.classLink "DiskPacks$TextReader" (15 : Nat) "DiskPacks$Order") ∈ lw_all := lw_g (lw_at lw_m3 187 rfl) rfl
theorem q738 : (Jvm.Cond.fieldLink "DiskPacks$TextReader" (28 : Nat) "DiskPacks$TextReader" "place" "I") ∈ lw_all := lw_g (lw_at lw_m3 189 rfl) rfl
theorem q740 : (Jvm.Cond.fieldLink "DiskPacks$TextReader" (24 : Nat) "DiskPacks$TextReader" "isWrong" "Z") ∈ lw_all := lw_g (lw_at lw_m3 191 rfl) rfl
theorem q741 : (Jvm.Cond.fieldLink "DiskPacks$TextReader" (17 : Nat) "DiskPacks$TextReader" "orders" "[LDiskPacks$Order;") ∈ lw_all := lw_g (lw_at lw_m3 192 rfl) rfl
theorem q742 : (Jvm.Cond.fieldLink "DiskPacks$TextReader" (83 : Nat) "DiskPacks$TextReader" "many" "I") ∈ lw_all := lw_g (lw_at lw_m3 193 rfl) rfl
theorem q743 : (Jvm.Cond.fieldLink "DiskPacks$TextReader" (3 : Nat) "DiskPacks$TextReader" "this$0" "LDiskPacks;") ∈ lw_all := lw_g (lw_at lw_m3 194 rfl) rfl
theorem q744 : (Jvm.Cond.lays "DiskPacks$TextReader" "DiskPacks$TextReader" "place" "I") ∈ lw_all := lw_g (lw_at lw_m3 195 rfl) rfl
theorem q745 : (Jvm.Cond.soleField "DiskPacks$TextReader" "place") ∈ lw_all := lw_g (lw_at lw_m3 196 rfl) rfl
theorem q746 : (Jvm.Cond.lays "DiskPacks$TextReader" "DiskPacks$TextReader" "isWrong" "Z") ∈ lw_all := lw_g (lw_at lw_m3 197 rfl) rfl
theorem q747 : (Jvm.Cond.soleField "DiskPacks$TextReader" "isWrong") ∈ lw_all := lw_g (lw_at lw_m3 198 rfl) rfl
theorem q748 : (Jvm.Cond.laysFinal "DiskPacks$TextReader" "DiskPacks$TextReader" "orders" "[LDiskPacks$Order;") ∈ lw_all := lw_g (lw_at lw_m3 199 rfl) rfl
theorem q749 : (Jvm.Cond.soleField "DiskPacks$TextReader" "orders") ∈ lw_all := lw_g (lw_at lw_m3 200 rfl) rfl
theorem q750 : (Jvm.Cond.lays "DiskPacks$TextReader" "DiskPacks$TextReader" "many" "I") ∈ lw_all := lw_g (lw_at lw_m3 201 rfl) rfl
theorem q751 : (Jvm.Cond.soleField "DiskPacks$TextReader" "many") ∈ lw_all := lw_g (lw_at lw_m3 202 rfl) rfl
theorem q752 : (Jvm.Cond.laysFinal "DiskPacks$TextReader" "DiskPacks$TextReader" "this$0" "LDiskPacks;") ∈ lw_all := lw_g (lw_at lw_m3 203 rfl) rfl
theorem q753 : (Jvm.Cond.soleField "DiskPacks$TextReader" "this$0") ∈ lw_all := lw_g (lw_at lw_m3 204 rfl) rfl
theorem q754 : (Jvm.Cond.superclass "DiskPacks$TextReader" "java/lang/Object") ∈ lw_all := lw_g (lw_at lw_m3 205 rfl) rfl
theorem q756 : (Jvm.Cond.instanceMethod ({ cls := "DiskPacks$TextReader", name := "readAll", desc := "()Z" } : Jvm.MethodName)) ∈ lw_all := lw_g (lw_at lw_m3 207 rfl) rfl
theorem q757 : (Jvm.Cond.selects "DiskPacks$TextReader" ({ cls := "DiskPacks$TextReader", name := "readAll", desc := "()Z" } : Jvm.MethodName) ({ cls := "DiskPacks$TextReader", name := "readAll", desc := "()Z" } : Jvm.MethodName)) ∈ lw_all := lw_g (lw_at lw_m3 208 rfl) rfl
theorem q758 : (Jvm.Cond.code ({ cls := "DiskPacks$TextReader", name := "readAll", desc := "()Z" } : Jvm.MethodName) prog_11_method_2_code (1 : Nat) (Option.some Jvm.ClassFile.FieldType.boolean)) ∈ lw_all := lw_g (lw_at lw_m3 209 rfl) rfl
theorem q759 : (Jvm.Cond.methodLink "DiskPacks$TextReader" (21 : Nat) ({ cls := "DiskPacks$TextReader", name := "order", desc := "()V" } : Jvm.MethodName)) ∈ lw_all := lw_g (lw_at lw_m3 210 rfl) rfl
theorem q760 : (Jvm.Cond.privateMethod ({ cls := "DiskPacks$TextReader", name := "order", desc := "()V" } : Jvm.MethodName)) ∈ lw_tbl := lw_at lw_m3 211 rfl
theorem q761 : (Jvm.Cond.instanceMethod ({ cls := "DiskPacks$TextReader", name := "order", desc := "()V" } : Jvm.MethodName)) ∈ lw_all := lw_g (lw_at lw_m3 212 rfl) rfl
theorem q762 : (Jvm.Cond.code ({ cls := "DiskPacks$TextReader", name := "order", desc := "()V" } : Jvm.MethodName) prog_11_method_7_code (3 : Nat) (Option.none : Option Jvm.ClassFile.FieldType)) ∈ lw_all := lw_g (lw_at lw_m3 213 rfl) rfl
theorem q763 : (Jvm.Cond.methodLink "DiskPacks$TextReader" (50 : Nat) ({ cls := "DiskPacks$TextReader", name := "next", desc := "()C" } : Jvm.MethodName)) ∈ lw_all := lw_g (lw_at lw_m3 214 rfl) rfl
theorem q764 : (Jvm.Cond.privateMethod ({ cls := "DiskPacks$TextReader", name := "next", desc := "()C" } : Jvm.MethodName)) ∈ lw_tbl := lw_at lw_m3 215 rfl
theorem q765 : (Jvm.Cond.instanceMethod ({ cls := "DiskPacks$TextReader", name := "next", desc := "()C" } : Jvm.MethodName)) ∈ lw_all := lw_g (lw_at lw_m3 216 rfl) rfl
theorem q766 : (Jvm.Cond.code ({ cls := "DiskPacks$TextReader", name := "next", desc := "()C" } : Jvm.MethodName) prog_11_method_3_code (1 : Nat) (Option.some Jvm.ClassFile.FieldType.char)) ∈ lw_all := lw_g (lw_at lw_m3 217 rfl) rfl
theorem q767 : (Jvm.Cond.methodLink "DiskPacks$TextReader" (36 : Nat) ({ cls := "java/lang/StringBuilder", name := "length", desc := "()I" } : Jvm.MethodName)) ∈ lw_all := lw_g (lw_at lw_m3 218 rfl) rfl
theorem q768 : (Jvm.Cond.methodLink "DiskPacks$TextReader" (46 : Nat) ({ cls := "java/lang/StringBuilder", name := "charAt", desc := "(I)C" } : Jvm.MethodName)) ∈ lw_all := lw_g (lw_at lw_m3 219 rfl) rfl
theorem q783 : (Jvm.Cond.methodLink "DiskPacks$TextReader" (54 : Nat) ({ cls := "DiskPacks$TextReader", name := "number", desc := "(I)I" } : Jvm.MethodName)) ∈ lw_all := lw_g (lw_at lw_m3 234 rfl) rfl
theorem q784 : (Jvm.Cond.privateMethod ({ cls := "DiskPacks$TextReader", name := "number", desc := "(I)I" } : Jvm.MethodName)) ∈ lw_tbl := lw_at lw_m3 235 rfl
theorem q785 : (Jvm.Cond.instanceMethod ({ cls := "DiskPacks$TextReader", name := "number", desc := "(I)I" } : Jvm.MethodName)) ∈ lw_all := lw_g (lw_at lw_m3 236 rfl) rfl
theorem q786 : (Jvm.Cond.code ({ cls := "DiskPacks$TextReader", name := "number", desc := "(I)I" } : Jvm.MethodName) prog_11_method_5_code (3 : Nat) (Option.some Jvm.ClassFile.FieldType.int)) ∈ lw_all := lw_g (lw_at lw_m3 237 rfl) rfl
theorem q787 : (Jvm.Cond.methodLink "DiskPacks$TextReader" (58 : Nat) ({ cls := "DiskPacks$TextReader", name := "mounting", desc := "(I)LDiskPacks$Order;" } : Jvm.MethodName)) ∈ lw_all := lw_g (lw_at lw_m3 238 rfl) rfl
theorem q788 : (Jvm.Cond.privateMethod ({ cls := "DiskPacks$TextReader", name := "mounting", desc := "(I)LDiskPacks$Order;" } : Jvm.MethodName)) ∈ lw_tbl := lw_at lw_m3 239 rfl
theorem q789 : (Jvm.Cond.instanceMethod ({ cls := "DiskPacks$TextReader", name := "mounting", desc := "(I)LDiskPacks$Order;" } : Jvm.MethodName)) ∈ lw_all := lw_g (lw_at lw_m4 0 rfl) rfl
theorem q790 : (Jvm.Cond.code ({ cls := "DiskPacks$TextReader", name := "mounting", desc := "(I)LDiskPacks$Order;" } : Jvm.MethodName) prog_11_method_8_code (3 : Nat) (Option.some (Jvm.ClassFile.FieldType.object "DiskPacks$Order"))) ∈ lw_all := lw_g (lw_at lw_m4 1 rfl) rfl
theorem q791 : (Jvm.Cond.methodLink "DiskPacks$TextReader" (86 : Nat) ({ cls := "DiskPacks$TextReader", name := "after", desc := "(CI)I" } : Jvm.MethodName)) ∈ lw_all := lw_g (lw_at lw_m4 2 rfl) rfl
theorem q792 : (Jvm.Cond.privateMethod ({ cls := "DiskPacks$TextReader", name := "after", desc := "(CI)I" } : Jvm.MethodName)) ∈ lw_tbl := lw_at lw_m4 3 rfl
theorem q793 : (Jvm.Cond.instanceMethod ({ cls := "DiskPacks$TextReader", name := "after", desc := "(CI)I" } : Jvm.MethodName)) ∈ lw_all := lw_g (lw_at lw_m4 4 rfl) rfl
theorem q794 : (Jvm.Cond.code ({ cls := "DiskPacks$TextReader", name := "after", desc := "(CI)I" } : Jvm.MethodName) prog_11_method_6_code (3 : Nat) (Option.some Jvm.ClassFile.FieldType.int)) ∈ lw_all := lw_g (lw_at lw_m4 5 rfl) rfl
theorem q795 : (Jvm.Cond.methodLink "DiskPacks$TextReader" (42 : Nat) ({ cls := "DiskPacks$TextReader", name := "sign", desc := "(C)V" } : Jvm.MethodName)) ∈ lw_all := lw_g (lw_at lw_m4 6 rfl) rfl
theorem q796 : (Jvm.Cond.privateMethod ({ cls := "DiskPacks$TextReader", name := "sign", desc := "(C)V" } : Jvm.MethodName)) ∈ lw_tbl := lw_at lw_m4 7 rfl
theorem q797 : (Jvm.Cond.instanceMethod ({ cls := "DiskPacks$TextReader", name := "sign", desc := "(C)V" } : Jvm.MethodName)) ∈ lw_all := lw_g (lw_at lw_m4 8 rfl) rfl
theorem q798 : (Jvm.Cond.code ({ cls := "DiskPacks$TextReader", name := "sign", desc := "(C)V" } : Jvm.MethodName) prog_11_method_4_code (2 : Nat) (Option.none : Option Jvm.ClassFile.FieldType)) ∈ lw_all := lw_g (lw_at lw_m4 9 rfl) rfl
theorem q799 : (Jvm.Cond.static ({ cls := "DiskPacks$TextReader", name := "lambda$mounting$0", desc := "(IILDiskPacks$State;)Z" } : Jvm.MethodName)) ∈ lw_all := lw_g (lw_at lw_m4 10 rfl) rfl
theorem q800 : (Jvm.Cond.code ({ cls := "DiskPacks$TextReader", name := "lambda$mounting$0", desc := "(IILDiskPacks$State;)Z" } : Jvm.MethodName) prog_11_method_24_code (3 : Nat) (Option.some Jvm.ClassFile.FieldType.boolean)) ∈ lw_all := lw_g (lw_at lw_m4 11 rfl) rfl
theorem q801 : (Jvm.Cond.methodLink "DiskPacks$TextReader" (140 : Nat) ({ cls := "DiskPacks$State", name := "mount", desc := "(II)Z" } : Jvm.MethodName)) ∈ lw_all := lw_g (lw_at lw_m4 12 rfl) rfl
theorem q851 : (Jvm.Cond.methodLink "DiskPacks$TextReader" (62 : Nat) ({ cls := "DiskPacks$TextReader", name := "unmounting", desc := "(I)LDiskPacks$Order;" } : Jvm.MethodName)) ∈ lw_all := lw_g (lw_at lw_m4 62 rfl) rfl
theorem q852 : (Jvm.Cond.privateMethod ({ cls := "DiskPacks$TextReader", name := "unmounting", desc := "(I)LDiskPacks$Order;" } : Jvm.MethodName)) ∈ lw_tbl := lw_at lw_m4 63 rfl
theorem q853 : (Jvm.Cond.instanceMethod ({ cls := "DiskPacks$TextReader", name := "unmounting", desc := "(I)LDiskPacks$Order;" } : Jvm.MethodName)) ∈ lw_all := lw_g (lw_at lw_m4 64 rfl) rfl
theorem q854 : (Jvm.Cond.code ({ cls := "DiskPacks$TextReader", name := "unmounting", desc := "(I)LDiskPacks$Order;" } : Jvm.MethodName) prog_11_method_9_code (2 : Nat) (Option.some (Jvm.ClassFile.FieldType.object "DiskPacks$Order"))) ∈ lw_all := lw_g (lw_at lw_m4 65 rfl) rfl
theorem q855 : (Jvm.Cond.static ({ cls := "DiskPacks$TextReader", name := "lambda$unmounting$1", desc := "(ILDiskPacks$State;)Z" } : Jvm.MethodName)) ∈ lw_all := lw_g (lw_at lw_m4 66 rfl) rfl
theorem q856 : (Jvm.Cond.code ({ cls := "DiskPacks$TextReader", name := "lambda$unmounting$1", desc := "(ILDiskPacks$State;)Z" } : Jvm.MethodName) prog_11_method_23_code (2 : Nat) (Option.some Jvm.ClassFile.FieldType.boolean)) ∈ lw_all := lw_g (lw_at lw_m4 67 rfl) rfl
theorem q857 : (Jvm.Cond.methodLink "DiskPacks$TextReader" (137 : Nat) ({ cls := "DiskPacks$State", name := "unmount", desc := "(I)Z" } : Jvm.MethodName)) ∈ lw_all := lw_g (lw_at lw_m4 68 rfl) rfl
theorem q861 : (Jvm.Cond.methodLink "DiskPacks$TextReader" (65 : Nat) ({ cls := "DiskPacks$TextReader", name := "seeking", desc := "(I)LDiskPacks$Order;" } : Jvm.MethodName)) ∈ lw_all := lw_g (lw_at lw_m4 72 rfl) rfl
theorem q862 : (Jvm.Cond.privateMethod ({ cls := "DiskPacks$TextReader", name := "seeking", desc := "(I)LDiskPacks$Order;" } : Jvm.MethodName)) ∈ lw_tbl := lw_at lw_m4 73 rfl
theorem q863 : (Jvm.Cond.instanceMethod ({ cls := "DiskPacks$TextReader", name := "seeking", desc := "(I)LDiskPacks$Order;" } : Jvm.MethodName)) ∈ lw_all := lw_g (lw_at lw_m4 74 rfl) rfl
theorem q864 : (Jvm.Cond.code ({ cls := "DiskPacks$TextReader", name := "seeking", desc := "(I)LDiskPacks$Order;" } : Jvm.MethodName) prog_11_method_10_code (3 : Nat) (Option.some (Jvm.ClassFile.FieldType.object "DiskPacks$Order"))) ∈ lw_all := lw_g (lw_at lw_m4 75 rfl) rfl
theorem q865 : (Jvm.Cond.static ({ cls := "DiskPacks$TextReader", name := "lambda$seeking$2", desc := "(IILDiskPacks$State;)Z" } : Jvm.MethodName)) ∈ lw_all := lw_g (lw_at lw_m4 76 rfl) rfl
theorem q866 : (Jvm.Cond.code ({ cls := "DiskPacks$TextReader", name := "lambda$seeking$2", desc := "(IILDiskPacks$State;)Z" } : Jvm.MethodName) prog_11_method_22_code (3 : Nat) (Option.some Jvm.ClassFile.FieldType.boolean)) ∈ lw_all := lw_g (lw_at lw_m4 77 rfl) rfl
theorem q867 : (Jvm.Cond.methodLink "DiskPacks$TextReader" (134 : Nat) ({ cls := "DiskPacks$State", name := "seek", desc := "(II)Z" } : Jvm.MethodName)) ∈ lw_all := lw_g (lw_at lw_m4 78 rfl) rfl
theorem q871 : (Jvm.Cond.methodLink "DiskPacks$TextReader" (68 : Nat) ({ cls := "DiskPacks$TextReader", name := "writing", desc := "(I)LDiskPacks$Order;" } : Jvm.MethodName)) ∈ lw_all := lw_g (lw_at lw_m4 82 rfl) rfl
theorem q872 : (Jvm.Cond.privateMethod ({ cls := "DiskPacks$TextReader", name := "writing", desc := "(I)LDiskPacks$Order;" } : Jvm.MethodName)) ∈ lw_tbl := lw_at lw_m4 83 rfl
theorem q873 : (Jvm.Cond.instanceMethod ({ cls := "DiskPacks$TextReader", name := "writing", desc := "(I)LDiskPacks$Order;" } : Jvm.MethodName)) ∈ lw_all := lw_g (lw_at lw_m4 84 rfl) rfl
theorem q874 : (Jvm.Cond.code ({ cls := "DiskPacks$TextReader", name := "writing", desc := "(I)LDiskPacks$Order;" } : Jvm.MethodName) prog_11_method_11_code (4 : Nat) (Option.some (Jvm.ClassFile.FieldType.object "DiskPacks$Order"))) ∈ lw_all := lw_g (lw_at lw_m4 85 rfl) rfl
theorem q875 : (Jvm.Cond.static ({ cls := "DiskPacks$TextReader", name := "lambda$writing$3", desc := "(IIILDiskPacks$State;)Z" } : Jvm.MethodName)) ∈ lw_all := lw_g (lw_at lw_m4 86 rfl) rfl
theorem q876 : (Jvm.Cond.code ({ cls := "DiskPacks$TextReader", name := "lambda$writing$3", desc := "(IIILDiskPacks$State;)Z" } : Jvm.MethodName) prog_11_method_21_code (4 : Nat) (Option.some Jvm.ClassFile.FieldType.boolean)) ∈ lw_all := lw_g (lw_at lw_m4 87 rfl) rfl
theorem q877 : (Jvm.Cond.methodLink "DiskPacks$TextReader" (130 : Nat) ({ cls := "DiskPacks$State", name := "write", desc := "(III)Z" } : Jvm.MethodName)) ∈ lw_all := lw_g (lw_at lw_m4 88 rfl) rfl
theorem q935 : (Jvm.Cond.methodLink "DiskPacks$TextReader" (71 : Nat) ({ cls := "DiskPacks$TextReader", name := "reading", desc := "(I)LDiskPacks$Order;" } : Jvm.MethodName)) ∈ lw_all := lw_g (lw_at lw_m4 146 rfl) rfl
theorem q936 : (Jvm.Cond.privateMethod ({ cls := "DiskPacks$TextReader", name := "reading", desc := "(I)LDiskPacks$Order;" } : Jvm.MethodName)) ∈ lw_tbl := lw_at lw_m4 147 rfl
theorem q937 : (Jvm.Cond.instanceMethod ({ cls := "DiskPacks$TextReader", name := "reading", desc := "(I)LDiskPacks$Order;" } : Jvm.MethodName)) ∈ lw_all := lw_g (lw_at lw_m4 148 rfl) rfl
theorem q938 : (Jvm.Cond.code ({ cls := "DiskPacks$TextReader", name := "reading", desc := "(I)LDiskPacks$Order;" } : Jvm.MethodName) prog_11_method_12_code (3 : Nat) (Option.some (Jvm.ClassFile.FieldType.object "DiskPacks$Order"))) ∈ lw_all := lw_g (lw_at lw_m4 149 rfl) rfl
theorem q939 : (Jvm.Cond.static ({ cls := "DiskPacks$TextReader", name := "lambda$reading$4", desc := "(IILDiskPacks$State;)Z" } : Jvm.MethodName)) ∈ lw_all := lw_g (lw_at lw_m4 150 rfl) rfl
theorem q940 : (Jvm.Cond.code ({ cls := "DiskPacks$TextReader", name := "lambda$reading$4", desc := "(IILDiskPacks$State;)Z" } : Jvm.MethodName) prog_11_method_20_code (4 : Nat) (Option.some Jvm.ClassFile.FieldType.boolean)) ∈ lw_all := lw_g (lw_at lw_m4 151 rfl) rfl
theorem q941 : (Jvm.Cond.methodLink "DiskPacks$TextReader" (123 : Nat) ({ cls := "DiskPacks$State", name := "hasPack", desc := "(I)Z" } : Jvm.MethodName)) ∈ lw_all := lw_g (lw_at lw_m4 152 rfl) rfl
theorem q942 : (Jvm.Cond.methodLink "DiskPacks$TextReader" (126 : Nat) ({ cls := "DiskPacks$State", name := "read", desc := "(II)I" } : Jvm.MethodName)) ∈ lw_all := lw_g (lw_at lw_m4 153 rfl) rfl
theorem q974 : (Jvm.Cond.methodLink "DiskPacks$TextReader" (74 : Nat) ({ cls := "DiskPacks$TextReader", name := "turning", desc := "(I)LDiskPacks$Order;" } : Jvm.MethodName)) ∈ lw_all := lw_g (lw_at lw_m4 185 rfl) rfl
theorem q975 : (Jvm.Cond.privateMethod ({ cls := "DiskPacks$TextReader", name := "turning", desc := "(I)LDiskPacks$Order;" } : Jvm.MethodName)) ∈ lw_tbl := lw_at lw_m4 186 rfl
theorem q976 : (Jvm.Cond.instanceMethod ({ cls := "DiskPacks$TextReader", name := "turning", desc := "(I)LDiskPacks$Order;" } : Jvm.MethodName)) ∈ lw_all := lw_g (lw_at lw_m4 187 rfl) rfl
theorem q977 : (Jvm.Cond.code ({ cls := "DiskPacks$TextReader", name := "turning", desc := "(I)LDiskPacks$Order;" } : Jvm.MethodName) prog_11_method_13_code (3 : Nat) (Option.some (Jvm.ClassFile.FieldType.object "DiskPacks$Order"))) ∈ lw_all := lw_g (lw_at lw_m4 188 rfl) rfl
theorem q978 : (Jvm.Cond.static ({ cls := "DiskPacks$TextReader", name := "lambda$turning$5", desc := "(IZLDiskPacks$State;)Z" } : Jvm.MethodName)) ∈ lw_all := lw_g (lw_at lw_m4 189 rfl) rfl
theorem q979 : (Jvm.Cond.code ({ cls := "DiskPacks$TextReader", name := "lambda$turning$5", desc := "(IZLDiskPacks$State;)Z" } : Jvm.MethodName) prog_11_method_19_code (3 : Nat) (Option.some Jvm.ClassFile.FieldType.boolean)) ∈ lw_all := lw_g (lw_at lw_m4 190 rfl) rfl
theorem q980 : (Jvm.Cond.methodLink "DiskPacks$TextReader" (119 : Nat) ({ cls := "DiskPacks$State", name := "setServo", desc := "(IZ)Z" } : Jvm.MethodName)) ∈ lw_all := lw_g (lw_at lw_m4 191 rfl) rfl
theorem q984 : (Jvm.Cond.methodLink "DiskPacks$TextReader" (77 : Nat) ({ cls := "DiskPacks$TextReader", name := "polishing", desc := "(I)LDiskPacks$Order;" } : Jvm.MethodName)) ∈ lw_all := lw_g (lw_at lw_m4 195 rfl) rfl
theorem q985 : (Jvm.Cond.privateMethod ({ cls := "DiskPacks$TextReader", name := "polishing", desc := "(I)LDiskPacks$Order;" } : Jvm.MethodName)) ∈ lw_tbl := lw_at lw_m4 196 rfl
theorem q986 : (Jvm.Cond.instanceMethod ({ cls := "DiskPacks$TextReader", name := "polishing", desc := "(I)LDiskPacks$Order;" } : Jvm.MethodName)) ∈ lw_all := lw_g (lw_at lw_m4 197 rfl) rfl
theorem q987 : (Jvm.Cond.code ({ cls := "DiskPacks$TextReader", name := "polishing", desc := "(I)LDiskPacks$Order;" } : Jvm.MethodName) prog_11_method_14_code (2 : Nat) (Option.some (Jvm.ClassFile.FieldType.object "DiskPacks$Order"))) ∈ lw_all := lw_g (lw_at lw_m4 198 rfl) rfl
theorem q988 : (Jvm.Cond.static ({ cls := "DiskPacks$TextReader", name := "lambda$polishing$6", desc := "(ILDiskPacks$State;)Z" } : Jvm.MethodName)) ∈ lw_all := lw_g (lw_at lw_m4 199 rfl) rfl
theorem q989 : (Jvm.Cond.code ({ cls := "DiskPacks$TextReader", name := "lambda$polishing$6", desc := "(ILDiskPacks$State;)Z" } : Jvm.MethodName) prog_11_method_18_code (2 : Nat) (Option.some Jvm.ClassFile.FieldType.boolean)) ∈ lw_all := lw_g (lw_at lw_m4 200 rfl) rfl
theorem q990 : (Jvm.Cond.methodLink "DiskPacks$TextReader" (115 : Nat) ({ cls := "DiskPacks$State", name := "polish", desc := "(I)Z" } : Jvm.MethodName)) ∈ lw_all := lw_g (lw_at lw_m4 201 rfl) rfl
theorem q999 : (Jvm.Cond.methodLink "DiskPacks$TextReader" (80 : Nat) ({ cls := "DiskPacks$TextReader", name := "mending", desc := "(I)LDiskPacks$Order;" } : Jvm.MethodName)) ∈ lw_all := lw_g (lw_at lw_m4 210 rfl) rfl
theorem q1000 : (Jvm.Cond.privateMethod ({ cls := "DiskPacks$TextReader", name := "mending", desc := "(I)LDiskPacks$Order;" } : Jvm.MethodName)) ∈ lw_tbl := lw_at lw_m4 211 rfl
theorem q1001 : (Jvm.Cond.instanceMethod ({ cls := "DiskPacks$TextReader", name := "mending", desc := "(I)LDiskPacks$Order;" } : Jvm.MethodName)) ∈ lw_all := lw_g (lw_at lw_m4 212 rfl) rfl
theorem q1002 : (Jvm.Cond.code ({ cls := "DiskPacks$TextReader", name := "mending", desc := "(I)LDiskPacks$Order;" } : Jvm.MethodName) prog_11_method_15_code (3 : Nat) (Option.some (Jvm.ClassFile.FieldType.object "DiskPacks$Order"))) ∈ lw_all := lw_g (lw_at lw_m4 213 rfl) rfl
theorem q1003 : (Jvm.Cond.static ({ cls := "DiskPacks$TextReader", name := "lambda$mending$7", desc := "(IILDiskPacks$State;)Z" } : Jvm.MethodName)) ∈ lw_all := lw_g (lw_at lw_m4 214 rfl) rfl
theorem q1004 : (Jvm.Cond.code ({ cls := "DiskPacks$TextReader", name := "lambda$mending$7", desc := "(IILDiskPacks$State;)Z" } : Jvm.MethodName) prog_11_method_17_code (3 : Nat) (Option.some Jvm.ClassFile.FieldType.boolean)) ∈ lw_all := lw_g (lw_at lw_m4 215 rfl) rfl
theorem q1005 : (Jvm.Cond.methodLink "DiskPacks$TextReader" (109 : Nat) ({ cls := "DiskPacks$State", name := "mend", desc := "(II)Z" } : Jvm.MethodName)) ∈ lw_all := lw_g (lw_at lw_m4 216 rfl) rfl
theorem q1176 : (Jvm.Cond.selects "DiskPacks$TextReader" ({ cls := "java/lang/Object", name := "getClass", desc := "()Ljava/lang/Class;" } : Jvm.MethodName) ({ cls := "java/lang/Object", name := "getClass", desc := "()Ljava/lang/Class;" } : Jvm.MethodName)) ∈ lw_all := lw_g (lw_at lw_m5 147 rfl) rfl
theorem q1678 : (Jvm.Cond.instanceMethod ({ cls := "DiskPacks$TextReader", name := "carryOut", desc := "(LDiskPacks$State;)I" } : Jvm.MethodName)) ∈ lw_all := lw_g (lw_at lw_m7 169 rfl) rfl
theorem q1679 : (Jvm.Cond.selects "DiskPacks$TextReader" ({ cls := "DiskPacks$TextReader", name := "carryOut", desc := "(LDiskPacks$State;)I" } : Jvm.MethodName) ({ cls := "DiskPacks$TextReader", name := "carryOut", desc := "(LDiskPacks$State;)I" } : Jvm.MethodName)) ∈ lw_all := lw_g (lw_at lw_m7 170 rfl) rfl
theorem q1680 : (Jvm.Cond.code ({ cls := "DiskPacks$TextReader", name := "carryOut", desc := "(LDiskPacks$State;)I" } : Jvm.MethodName) prog_11_method_16_code (3 : Nat) (Option.some Jvm.ClassFile.FieldType.int)) ∈ lw_all := lw_g (lw_at lw_m7 171 rfl) rfl
theorem q1681 : (Jvm.Cond.interfaceEntry "DiskPacks$TextReader" (106 : Nat)) ∈ lw_tbl := lw_at lw_m7 172 rfl
theorem q1682 : (Jvm.Cond.methodLink "DiskPacks$TextReader" (106 : Nat) ({ cls := "DiskPacks$Order", name := "carryOut", desc := "(LDiskPacks$State;)Z" } : Jvm.MethodName)) ∈ lw_all := lw_g (lw_at lw_m7 173 rfl) rfl
theorem q2186 : (Jvm.Cond.castable "DiskPacks$TextReader" "java/lang/Object") ∈ lw_tbl := lw_at lw_m9 197 rfl
theorem in_X10 : ∀ w ∈ wsX100, w ∈ lw_all := lw_in wsX100 [744, 746, 748, 750, 752] (by decide +kernel) (by decide +kernel)
/-! java/util/AbstractCollection -/
set_option maxRecDepth 100000
def RJ0 : String := "java/util/AbstractCollection"
abbrev cJ0_init : ByteArray := prog_41_method_1_code
def yJ0_init : MethodName := ⟨RJ0, "<init>", "()V"⟩
theorem dJ0_init_0 : decode cJ0_init 0 = .ok (.aload_n 0, 1) := by decide +kernel
theorem dJ0_init_1 : decode cJ0_init 1 = .ok (.invokespecial 1, 3) := by decide +kernel
theorem dJ0_init_4 : decode cJ0_init 4 = .ok (.return_, 1) := by decide +kernel
theorem q72 : (Jvm.Cond.initialized "java/util/AbstractCollection") ∈ lw_all := lw_g (lw_at lw_m1 3 rfl) rfl
theorem q132 : (Jvm.Cond.instanceMethod ({ cls := "java/util/AbstractCollection", name := "<init>", desc := "()V" } : Jvm.MethodName)) ∈ lw_all := lw_g (lw_at lw_m1 63 rfl) rfl
theorem q133 : (Jvm.Cond.code ({ cls := "java/util/AbstractCollection", name := "<init>", desc := "()V" } : Jvm.MethodName) prog_41_method_1_code (1 : Nat) (Option.none : Option Jvm.ClassFile.FieldType)) ∈ lw_all := lw_g (lw_at lw_m1 64 rfl) rfl
theorem q134 : (Jvm.Cond.methodLink "java/util/AbstractCollection" (1 : Nat) ({ cls := "java/lang/Object", name := "<init>", desc := "()V" } : Jvm.MethodName)) ∈ lw_all := lw_g (lw_at lw_m1 65 rfl) rfl
/-! java/util/AbstractList -/
set_option maxRecDepth 100000
def RJ1 : String := "java/util/AbstractList"
abbrev cJ1_init : ByteArray := prog_42_method_1_code
def yJ1_init : MethodName := ⟨RJ1, "<init>", "()V"⟩
def dkwJ1_init_0 : List UInt8 := [42, 183, 0, 1, 42, 3, 181, 0, 7, 177]
abbrev dktJ1_init_0 : List UInt8 := dkwJ1_init_0 ++ []
theorem dksJ1_init_0 : cJ1_init.data.toList.drop 0 = dktJ1_init_0 := by decide +kernel
theorem dJ1_init_0 : decode cJ1_init 0 = .ok (.aload_n 0, 1) := dk_42 (dk_at dksJ1_init_0 0 rfl rfl)
theorem dJ1_init_1 : decode cJ1_init 1 = .ok (.invokespecial 1, 3) := dk_183 0 1 (dk_at dksJ1_init_0 1 rfl rfl)
theorem dJ1_init_4 : decode cJ1_init 4 = .ok (.aload_n 0, 1) := dk_42 (dk_at dksJ1_init_0 4 rfl rfl)
theorem dJ1_init_5 : decode cJ1_init 5 = .ok (.iconst 0, 1) := dk_3 (dk_at dksJ1_init_0 5 rfl rfl)
theorem dJ1_init_6 : decode cJ1_init 6 = .ok (.putfield 7, 3) := dk_181 0 7 (dk_at dksJ1_init_0 6 rfl rfl)
theorem dJ1_init_9 : decode cJ1_init 9 = .ok (.return_, 1) := dk_177 (dk_at dksJ1_init_0 9 rfl rfl)
theorem q73 : (Jvm.Cond.initialized "java/util/AbstractList") ∈ lw_all := lw_g (lw_at lw_m1 4 rfl) rfl
theorem q129 : (Jvm.Cond.instanceMethod ({ cls := "java/util/AbstractList", name := "<init>", desc := "()V" } : Jvm.MethodName)) ∈ lw_all := lw_g (lw_at lw_m1 60 rfl) rfl
theorem q130 : (Jvm.Cond.code ({ cls := "java/util/AbstractList", name := "<init>", desc := "()V" } : Jvm.MethodName) prog_42_method_1_code (1 : Nat) (Option.none : Option Jvm.ClassFile.FieldType)) ∈ lw_all := lw_g (lw_at lw_m1 61 rfl) rfl
theorem q131 : (Jvm.Cond.methodLink "java/util/AbstractList" (1 : Nat) ({ cls := "java/util/AbstractCollection", name := "<init>", desc := "()V" } : Jvm.MethodName)) ∈ lw_all := lw_g (lw_at lw_m1 62 rfl) rfl
theorem q139 : (Jvm.Cond.fieldLink "java/util/AbstractList" (7 : Nat) "java/util/AbstractList" "modCount" "I") ∈ lw_all := lw_g (lw_at lw_m1 70 rfl) rfl
theorem q147 : (Jvm.Cond.soleField "java/util/AbstractList" "modCount") ∈ lw_all := lw_g (lw_at lw_m1 78 rfl) rfl
/-! java/util/ArrayList -/
set_option maxRecDepth 100000
def RJ2 : String := "java/util/ArrayList"
def TJ2 : u_T := fun k => match k with
  | 0 => ("java/util/AbstractList", "modCount", "I", false)
  | 1 => ("java/util/ArrayList", "elementData", "[Ljava/lang/Object;", false)
  | _ => ("java/util/ArrayList", "size", "I", false)
def tyJ2 : Nat → FieldType := fun k => match k with
  | 0 => .int
  | 1 => .array (.object "java/lang/Object")
  | _ => .int
abbrev wsJ20 : List Cond := u_ws RJ2 TJ2 3
theorem nmJ2 : ∀ a, a < 3 → ∀ b, b < 3 → a ≠ b → (TJ2 a).2.1 ≠ (TJ2 b).2.1 := by decide +kernel
theorem tyJ2_ok : ∀ k, k < 3 → parseFieldDescriptor (TJ2 k).2.2.1 = some (tyJ2 k) := by decide +kernel
abbrev cJ2_init : ByteArray := prog_44_method_2_code
def yJ2_init : MethodName := ⟨RJ2, "<init>", "()V"⟩
def dkwJ2_init_0 : List UInt8 := [42, 183, 0, 1, 42, 178, 0, 39, 181, 0, 9, 177]
abbrev dktJ2_init_0 : List UInt8 := dkwJ2_init_0 ++ []
theorem dksJ2_init_0 : cJ2_init.data.toList.drop 0 = dktJ2_init_0 := by decide +kernel
theorem dJ2_init_0 : decode cJ2_init 0 = .ok (.aload_n 0, 1) := dk_42 (dk_at dksJ2_init_0 0 rfl rfl)
theorem dJ2_init_1 : decode cJ2_init 1 = .ok (.invokespecial 1, 3) := dk_183 0 1 (dk_at dksJ2_init_0 1 rfl rfl)
theorem dJ2_init_4 : decode cJ2_init 4 = .ok (.aload_n 0, 1) := dk_42 (dk_at dksJ2_init_0 4 rfl rfl)
theorem dJ2_init_5 : decode cJ2_init 5 = .ok (.getstatic 39, 3) := dk_178 0 39 (dk_at dksJ2_init_0 5 rfl rfl)
theorem dJ2_init_8 : decode cJ2_init 8 = .ok (.putfield 9, 3) := dk_181 0 9 (dk_at dksJ2_init_0 8 rfl rfl)
theorem dJ2_init_11 : decode cJ2_init 11 = .ok (.return_, 1) := dk_177 (dk_at dksJ2_init_0 11 rfl rfl)
abbrev cJ2_size : ByteArray := prog_44_method_8_code
def yJ2_size : MethodName := ⟨RJ2, "size", "()I"⟩
theorem dJ2_size_0 : decode cJ2_size 0 = .ok (.aload_n 0, 1) := by decide +kernel
theorem dJ2_size_1 : decode cJ2_size 1 = .ok (.getfield 48, 3) := by decide +kernel
theorem dJ2_size_4 : decode cJ2_size 4 = .ok (.ireturn, 1) := by decide +kernel
abbrev cJ2_get : ByteArray := prog_44_method_20_code
def yJ2_get : MethodName := ⟨RJ2, "get", "(I)Ljava/lang/Object;"⟩
def dkwJ2_get_0 : List UInt8 := [27, 42, 180, 0, 48, 184, 0, 118, 87, 42, 27, 182, 0, 123, 176]
abbrev dktJ2_get_0 : List UInt8 := dkwJ2_get_0 ++ []
theorem dksJ2_get_0 : cJ2_get.data.toList.drop 0 = dktJ2_get_0 := by decide +kernel
theorem dJ2_get_0 : decode cJ2_get 0 = .ok (.iload_n 1, 1) := dk_27 (dk_at dksJ2_get_0 0 rfl rfl)
theorem dJ2_get_1 : decode cJ2_get 1 = .ok (.aload_n 0, 1) := dk_42 (dk_at dksJ2_get_0 1 rfl rfl)
theorem dJ2_get_2 : decode cJ2_get 2 = .ok (.getfield 48, 3) := dk_180 0 48 (dk_at dksJ2_get_0 2 rfl rfl)
theorem dJ2_get_5 : decode cJ2_get 5 = .ok (.invokestatic 118, 3) := dk_184 0 118 (dk_at dksJ2_get_0 5 rfl rfl)
theorem dJ2_get_8 : decode cJ2_get 8 = .ok (.pop, 1) := dk_87 (dk_at dksJ2_get_0 8 rfl rfl)
theorem dJ2_get_9 : decode cJ2_get 9 = .ok (.aload_n 0, 1) := dk_42 (dk_at dksJ2_get_0 9 rfl rfl)
theorem dJ2_get_10 : decode cJ2_get 10 = .ok (.iload_n 1, 1) := dk_27 (dk_at dksJ2_get_0 10 rfl rfl)
theorem dJ2_get_11 : decode cJ2_get 11 = .ok (.invokevirtual 123, 3) := dk_182 0 123 (dk_at dksJ2_get_0 11 rfl rfl)
theorem dJ2_get_14 : decode cJ2_get 14 = .ok (.areturn, 1) := dk_176 (dk_at dksJ2_get_0 14 rfl rfl)
abbrev cJ2_elementData : ByteArray := prog_44_method_18_code
def yJ2_elementData : MethodName := ⟨RJ2, "elementData", "(I)Ljava/lang/Object;"⟩
def dkwJ2_elementData_0 : List UInt8 := [42, 180, 0, 9, 27, 50, 176]
abbrev dktJ2_elementData_0 : List UInt8 := dkwJ2_elementData_0 ++ []
theorem dksJ2_elementData_0 : cJ2_elementData.data.toList.drop 0 = dktJ2_elementData_0 := by decide +kernel
theorem dJ2_elementData_0 : decode cJ2_elementData 0 = .ok (.aload_n 0, 1) := dk_42 (dk_at dksJ2_elementData_0 0 rfl rfl)
theorem dJ2_elementData_1 : decode cJ2_elementData 1 = .ok (.getfield 9, 3) := dk_180 0 9 (dk_at dksJ2_elementData_0 1 rfl rfl)
theorem dJ2_elementData_4 : decode cJ2_elementData 4 = .ok (.iload_n 1, 1) := dk_27 (dk_at dksJ2_elementData_0 4 rfl rfl)
theorem dJ2_elementData_5 : decode cJ2_elementData 5 = .ok (.aaload, 1) := dk_50 (dk_at dksJ2_elementData_0 5 rfl rfl)
theorem dJ2_elementData_6 : decode cJ2_elementData 6 = .ok (.areturn, 1) := dk_176 (dk_at dksJ2_elementData_0 6 rfl rfl)
abbrev cJ2_add : ByteArray := prog_44_method_25_code
def yJ2_add : MethodName := ⟨RJ2, "add", "(Ljava/lang/Object;)Z"⟩
def dkwJ2_add_1 : List UInt8 := [172]
abbrev dktJ2_add_1 : List UInt8 := dkwJ2_add_1 ++ []
def dkwJ2_add_0 : List UInt8 := [42, 89, 180, 0, 63, 4, 96, 181, 0, 63, 42, 43, 42, 180, 0, 9, 42, 180, 0, 48, 182, 0, 131, 4]
abbrev dktJ2_add_0 : List UInt8 := dkwJ2_add_0 ++ dktJ2_add_1
theorem dksJ2_add_0 : cJ2_add.data.toList.drop 0 = dktJ2_add_0 := by decide +kernel
theorem dksJ2_add_1 : cJ2_add.data.toList.drop 24 = dktJ2_add_1 := dk_seg dksJ2_add_0 24 rfl rfl
theorem dJ2_add_0 : decode cJ2_add 0 = .ok (.aload_n 0, 1) := dk_42 (dk_at dksJ2_add_0 0 rfl rfl)
theorem dJ2_add_1 : decode cJ2_add 1 = .ok (.dup, 1) := dk_89 (dk_at dksJ2_add_0 1 rfl rfl)
theorem dJ2_add_2 : decode cJ2_add 2 = .ok (.getfield 63, 3) := dk_180 0 63 (dk_at dksJ2_add_0 2 rfl rfl)
theorem dJ2_add_5 : decode cJ2_add 5 = .ok (.iconst 1, 1) := dk_4 (dk_at dksJ2_add_0 5 rfl rfl)
theorem dJ2_add_6 : decode cJ2_add 6 = .ok (.iadd, 1) := dk_96 (dk_at dksJ2_add_0 6 rfl rfl)
theorem dJ2_add_7 : decode cJ2_add 7 = .ok (.putfield 63, 3) := dk_181 0 63 (dk_at dksJ2_add_0 7 rfl rfl)
theorem dJ2_add_10 : decode cJ2_add 10 = .ok (.aload_n 0, 1) := dk_42 (dk_at dksJ2_add_0 10 rfl rfl)
theorem dJ2_add_11 : decode cJ2_add 11 = .ok (.aload_n 1, 1) := dk_43 (dk_at dksJ2_add_0 11 rfl rfl)
theorem dJ2_add_12 : decode cJ2_add 12 = .ok (.aload_n 0, 1) := dk_42 (dk_at dksJ2_add_0 12 rfl rfl)
theorem dJ2_add_13 : decode cJ2_add 13 = .ok (.getfield 9, 3) := dk_180 0 9 (dk_at dksJ2_add_0 13 rfl rfl)
theorem dJ2_add_16 : decode cJ2_add 16 = .ok (.aload_n 0, 1) := dk_42 (dk_at dksJ2_add_0 16 rfl rfl)
theorem dJ2_add_17 : decode cJ2_add 17 = .ok (.getfield 48, 3) := dk_180 0 48 (dk_at dksJ2_add_0 17 rfl rfl)
theorem dJ2_add_20 : decode cJ2_add 20 = .ok (.invokevirtual 131, 3) := dk_182 0 131 (dk_at dksJ2_add_0 20 rfl rfl)
theorem dJ2_add_23 : decode cJ2_add 23 = .ok (.iconst 1, 1) := dk_4 (dk_at dksJ2_add_0 23 rfl rfl)
theorem dJ2_add_24 : decode cJ2_add 24 = .ok (.ireturn, 1) := dk_172 (dk_at dksJ2_add_1 0 rfl rfl)
abbrev cJ2_add_2 : ByteArray := prog_44_method_24_code
def yJ2_add_2 : MethodName := ⟨RJ2, "add", "(Ljava/lang/Object;[Ljava/lang/Object;I)V"⟩
def dkwJ2_add_2_0 : List UInt8 := [29, 44, 190, 160, 0, 8, 42, 182, 0, 129, 77, 44, 29, 43, 83, 42, 29, 4, 96, 181, 0, 48, 177]
abbrev dktJ2_add_2_0 : List UInt8 := dkwJ2_add_2_0 ++ []
theorem dksJ2_add_2_0 : cJ2_add_2.data.toList.drop 0 = dktJ2_add_2_0 := by decide +kernel
theorem dJ2_add_2_0 : decode cJ2_add_2 0 = .ok (.iload_n 3, 1) := dk_29 (dk_at dksJ2_add_2_0 0 rfl rfl)
theorem dJ2_add_2_1 : decode cJ2_add_2 1 = .ok (.aload_n 2, 1) := dk_44 (dk_at dksJ2_add_2_0 1 rfl rfl)
theorem dJ2_add_2_2 : decode cJ2_add_2 2 = .ok (.arraylength, 1) := dk_190 (dk_at dksJ2_add_2_0 2 rfl rfl)
theorem dJ2_add_2_3 : decode cJ2_add_2 3 = .ok (.if_icmp .ne 8, 3) := dk_160 0 8 (dk_at dksJ2_add_2_0 3 rfl rfl)
theorem dJ2_add_2_6 : decode cJ2_add_2 6 = .ok (.aload_n 0, 1) := dk_42 (dk_at dksJ2_add_2_0 6 rfl rfl)
theorem dJ2_add_2_7 : decode cJ2_add_2 7 = .ok (.invokevirtual 129, 3) := dk_182 0 129 (dk_at dksJ2_add_2_0 7 rfl rfl)
theorem dJ2_add_2_10 : decode cJ2_add_2 10 = .ok (.astore_n 2, 1) := dk_77 (dk_at dksJ2_add_2_0 10 rfl rfl)
theorem dJ2_add_2_11 : decode cJ2_add_2 11 = .ok (.aload_n 2, 1) := dk_44 (dk_at dksJ2_add_2_0 11 rfl rfl)
theorem dJ2_add_2_12 : decode cJ2_add_2 12 = .ok (.iload_n 3, 1) := dk_29 (dk_at dksJ2_add_2_0 12 rfl rfl)
theorem dJ2_add_2_13 : decode cJ2_add_2 13 = .ok (.aload_n 1, 1) := dk_43 (dk_at dksJ2_add_2_0 13 rfl rfl)
theorem dJ2_add_2_14 : decode cJ2_add_2 14 = .ok (.aastore, 1) := dk_83 (dk_at dksJ2_add_2_0 14 rfl rfl)
theorem dJ2_add_2_15 : decode cJ2_add_2 15 = .ok (.aload_n 0, 1) := dk_42 (dk_at dksJ2_add_2_0 15 rfl rfl)
theorem dJ2_add_2_16 : decode cJ2_add_2 16 = .ok (.iload_n 3, 1) := dk_29 (dk_at dksJ2_add_2_0 16 rfl rfl)
theorem dJ2_add_2_17 : decode cJ2_add_2 17 = .ok (.iconst 1, 1) := dk_4 (dk_at dksJ2_add_2_0 17 rfl rfl)
theorem dJ2_add_2_18 : decode cJ2_add_2 18 = .ok (.iadd, 1) := dk_96 (dk_at dksJ2_add_2_0 18 rfl rfl)
theorem dJ2_add_2_19 : decode cJ2_add_2 19 = .ok (.putfield 48, 3) := dk_181 0 48 (dk_at dksJ2_add_2_0 19 rfl rfl)
theorem dJ2_add_2_22 : decode cJ2_add_2 22 = .ok (.return_, 1) := dk_177 (dk_at dksJ2_add_2_0 22 rfl rfl)
abbrev cJ2_grow : ByteArray := prog_44_method_7_code
def yJ2_grow : MethodName := ⟨RJ2, "grow", "()[Ljava/lang/Object;"⟩
def dkwJ2_grow_0 : List UInt8 := [42, 42, 180, 0, 48, 4, 96, 182, 0, 69, 176]
abbrev dktJ2_grow_0 : List UInt8 := dkwJ2_grow_0 ++ []
theorem dksJ2_grow_0 : cJ2_grow.data.toList.drop 0 = dktJ2_grow_0 := by decide +kernel
theorem dJ2_grow_0 : decode cJ2_grow 0 = .ok (.aload_n 0, 1) := dk_42 (dk_at dksJ2_grow_0 0 rfl rfl)
theorem dJ2_grow_1 : decode cJ2_grow 1 = .ok (.aload_n 0, 1) := dk_42 (dk_at dksJ2_grow_0 1 rfl rfl)
theorem dJ2_grow_2 : decode cJ2_grow 2 = .ok (.getfield 48, 3) := dk_180 0 48 (dk_at dksJ2_grow_0 2 rfl rfl)
theorem dJ2_grow_5 : decode cJ2_grow 5 = .ok (.iconst 1, 1) := dk_4 (dk_at dksJ2_grow_0 5 rfl rfl)
theorem dJ2_grow_6 : decode cJ2_grow 6 = .ok (.iadd, 1) := dk_96 (dk_at dksJ2_grow_0 6 rfl rfl)
theorem dJ2_grow_7 : decode cJ2_grow 7 = .ok (.invokevirtual 69, 3) := dk_182 0 69 (dk_at dksJ2_grow_0 7 rfl rfl)
theorem dJ2_grow_10 : decode cJ2_grow 10 = .ok (.areturn, 1) := dk_176 (dk_at dksJ2_grow_0 10 rfl rfl)
abbrev cJ2_grow_2 : ByteArray := prog_44_method_6_code
def yJ2_grow_2 : MethodName := ⟨RJ2, "grow", "(I)[Ljava/lang/Object;"⟩
def dkwJ2_grow_2_2 : List UInt8 := [27, 184, 0, 79, 189, 0, 7, 90, 181, 0, 9, 176]
abbrev dktJ2_grow_2_2 : List UInt8 := dkwJ2_grow_2_2 ++ []
def dkwJ2_grow_2_1 : List UInt8 := [28, 4, 122, 184, 0, 73, 62, 42, 42, 180, 0, 9, 29, 184, 0, 66, 90, 181, 0, 9, 176, 42, 16, 10]
abbrev dktJ2_grow_2_1 : List UInt8 := dkwJ2_grow_2_1 ++ dktJ2_grow_2_2
def dkwJ2_grow_2_0 : List UInt8 := [42, 180, 0, 9, 190, 61, 28, 157, 0, 13, 42, 180, 0, 9, 178, 0, 39, 165, 0, 28, 28, 27, 28, 100]
abbrev dktJ2_grow_2_0 : List UInt8 := dkwJ2_grow_2_0 ++ dktJ2_grow_2_1
theorem dksJ2_grow_2_0 : cJ2_grow_2.data.toList.drop 0 = dktJ2_grow_2_0 := by decide +kernel
theorem dksJ2_grow_2_1 : cJ2_grow_2.data.toList.drop 24 = dktJ2_grow_2_1 := dk_seg dksJ2_grow_2_0 24 rfl rfl
theorem dksJ2_grow_2_2 : cJ2_grow_2.data.toList.drop 48 = dktJ2_grow_2_2 := dk_seg dksJ2_grow_2_1 24 rfl rfl
theorem dJ2_grow_2_0 : decode cJ2_grow_2 0 = .ok (.aload_n 0, 1) := dk_42 (dk_at dksJ2_grow_2_0 0 rfl rfl)
theorem dJ2_grow_2_1 : decode cJ2_grow_2 1 = .ok (.getfield 9, 3) := dk_180 0 9 (dk_at dksJ2_grow_2_0 1 rfl rfl)
theorem dJ2_grow_2_4 : decode cJ2_grow_2 4 = .ok (.arraylength, 1) := dk_190 (dk_at dksJ2_grow_2_0 4 rfl rfl)
theorem dJ2_grow_2_5 : decode cJ2_grow_2 5 = .ok (.istore_n 2, 1) := dk_61 (dk_at dksJ2_grow_2_0 5 rfl rfl)
theorem dJ2_grow_2_6 : decode cJ2_grow_2 6 = .ok (.iload_n 2, 1) := dk_28 (dk_at dksJ2_grow_2_0 6 rfl rfl)
theorem dJ2_grow_2_7 : decode cJ2_grow_2 7 = .ok (.ifCond .gt 13, 3) := dk_157 0 13 (dk_at dksJ2_grow_2_0 7 rfl rfl)
theorem dJ2_grow_2_10 : decode cJ2_grow_2 10 = .ok (.aload_n 0, 1) := dk_42 (dk_at dksJ2_grow_2_0 10 rfl rfl)
theorem dJ2_grow_2_11 : decode cJ2_grow_2 11 = .ok (.getfield 9, 3) := dk_180 0 9 (dk_at dksJ2_grow_2_0 11 rfl rfl)
theorem dJ2_grow_2_14 : decode cJ2_grow_2 14 = .ok (.getstatic 39, 3) := dk_178 0 39 (dk_at dksJ2_grow_2_0 14 rfl rfl)
theorem dJ2_grow_2_17 : decode cJ2_grow_2 17 = .ok (.if_acmp .eq 28, 3) := dk_165 0 28 (dk_at dksJ2_grow_2_0 17 rfl rfl)
theorem dJ2_grow_2_20 : decode cJ2_grow_2 20 = .ok (.iload_n 2, 1) := dk_28 (dk_at dksJ2_grow_2_0 20 rfl rfl)
theorem dJ2_grow_2_21 : decode cJ2_grow_2 21 = .ok (.iload_n 1, 1) := dk_27 (dk_at dksJ2_grow_2_0 21 rfl rfl)
theorem dJ2_grow_2_22 : decode cJ2_grow_2 22 = .ok (.iload_n 2, 1) := dk_28 (dk_at dksJ2_grow_2_0 22 rfl rfl)
theorem dJ2_grow_2_23 : decode cJ2_grow_2 23 = .ok (.isub, 1) := dk_100 (dk_at dksJ2_grow_2_0 23 rfl rfl)
theorem dJ2_grow_2_24 : decode cJ2_grow_2 24 = .ok (.iload_n 2, 1) := dk_28 (dk_at dksJ2_grow_2_1 0 rfl rfl)
theorem dJ2_grow_2_25 : decode cJ2_grow_2 25 = .ok (.iconst 1, 1) := dk_4 (dk_at dksJ2_grow_2_1 1 rfl rfl)
theorem dJ2_grow_2_26 : decode cJ2_grow_2 26 = .ok (.ishr, 1) := dk_122 (dk_at dksJ2_grow_2_1 2 rfl rfl)
theorem dJ2_grow_2_27 : decode cJ2_grow_2 27 = .ok (.invokestatic 73, 3) := dk_184 0 73 (dk_at dksJ2_grow_2_1 3 rfl rfl)
theorem dJ2_grow_2_30 : decode cJ2_grow_2 30 = .ok (.istore_n 3, 1) := dk_62 (dk_at dksJ2_grow_2_1 6 rfl rfl)
theorem dJ2_grow_2_31 : decode cJ2_grow_2 31 = .ok (.aload_n 0, 1) := dk_42 (dk_at dksJ2_grow_2_1 7 rfl rfl)
theorem dJ2_grow_2_32 : decode cJ2_grow_2 32 = .ok (.aload_n 0, 1) := dk_42 (dk_at dksJ2_grow_2_1 8 rfl rfl)
theorem dJ2_grow_2_33 : decode cJ2_grow_2 33 = .ok (.getfield 9, 3) := dk_180 0 9 (dk_at dksJ2_grow_2_1 9 rfl rfl)
theorem dJ2_grow_2_36 : decode cJ2_grow_2 36 = .ok (.iload_n 3, 1) := dk_29 (dk_at dksJ2_grow_2_1 12 rfl rfl)
theorem dJ2_grow_2_37 : decode cJ2_grow_2 37 = .ok (.invokestatic 66, 3) := dk_184 0 66 (dk_at dksJ2_grow_2_1 13 rfl rfl)
theorem dJ2_grow_2_40 : decode cJ2_grow_2 40 = .ok (.dup_x1, 1) := dk_90 (dk_at dksJ2_grow_2_1 16 rfl rfl)
theorem dJ2_grow_2_41 : decode cJ2_grow_2 41 = .ok (.putfield 9, 3) := dk_181 0 9 (dk_at dksJ2_grow_2_1 17 rfl rfl)
theorem dJ2_grow_2_44 : decode cJ2_grow_2 44 = .ok (.areturn, 1) := dk_176 (dk_at dksJ2_grow_2_1 20 rfl rfl)
theorem dJ2_grow_2_45 : decode cJ2_grow_2 45 = .ok (.aload_n 0, 1) := dk_42 (dk_at dksJ2_grow_2_1 21 rfl rfl)
theorem dJ2_grow_2_46 : decode cJ2_grow_2 46 = .ok (.bipush 10, 2) := dk_16 10 (dk_at dksJ2_grow_2_1 22 rfl rfl)
theorem dJ2_grow_2_48 : decode cJ2_grow_2 48 = .ok (.iload_n 1, 1) := dk_27 (dk_at dksJ2_grow_2_2 0 rfl rfl)
theorem dJ2_grow_2_49 : decode cJ2_grow_2 49 = .ok (.invokestatic 79, 3) := dk_184 0 79 (dk_at dksJ2_grow_2_2 1 rfl rfl)
theorem dJ2_grow_2_52 : decode cJ2_grow_2 52 = .ok (.anewarray 7, 3) := dk_189 0 7 (dk_at dksJ2_grow_2_2 4 rfl rfl)
theorem dJ2_grow_2_55 : decode cJ2_grow_2 55 = .ok (.dup_x1, 1) := dk_90 (dk_at dksJ2_grow_2_2 7 rfl rfl)
theorem dJ2_grow_2_56 : decode cJ2_grow_2 56 = .ok (.putfield 9, 3) := dk_181 0 9 (dk_at dksJ2_grow_2_2 8 rfl rfl)
theorem dJ2_grow_2_59 : decode cJ2_grow_2 59 = .ok (.areturn, 1) := dk_176 (dk_at dksJ2_grow_2_2 11 rfl rfl)
theorem q74 : (Jvm.Cond.initialized "java/util/ArrayList") ∈ lw_all := lw_g (lw_at lw_m1 5 rfl) rfl
theorem q124 : (Jvm.Cond.instantiable "java/util/ArrayList" (3 : Nat)) ∈ lw_all := lw_g (lw_at lw_m1 55 rfl) rfl
theorem q126 : (Jvm.Cond.instanceMethod ({ cls := "java/util/ArrayList", name := "<init>", desc := "()V" } : Jvm.MethodName)) ∈ lw_all := lw_g (lw_at lw_m1 57 rfl) rfl
theorem q127 : (Jvm.Cond.code ({ cls := "java/util/ArrayList", name := "<init>", desc := "()V" } : Jvm.MethodName) prog_44_method_2_code (1 : Nat) (Option.none : Option Jvm.ClassFile.FieldType)) ∈ lw_all := lw_g (lw_at lw_m1 58 rfl) rfl
theorem q128 : (Jvm.Cond.methodLink "java/util/ArrayList" (1 : Nat) ({ cls := "java/util/AbstractList", name := "<init>", desc := "()V" } : Jvm.MethodName)) ∈ lw_all := lw_g (lw_at lw_m1 59 rfl) rfl
theorem q135 : (Jvm.Cond.fieldLink "java/util/ArrayList" (39 : Nat) "java/util/ArrayList" "DEFAULTCAPACITY_EMPTY_ELEMENTDATA" "[Ljava/lang/Object;") ∈ lw_all := lw_g (lw_at lw_m1 66 rfl) rfl
theorem q136 : (Jvm.Cond.laysStatic "java/util/ArrayList" "DEFAULTCAPACITY_EMPTY_ELEMENTDATA" "[Ljava/lang/Object;") ∈ lw_tbl := lw_at lw_m1 67 rfl
theorem q137 : (Jvm.Cond.fieldLink "java/util/ArrayList" (9 : Nat) "java/util/ArrayList" "elementData" "[Ljava/lang/Object;") ∈ lw_all := lw_g (lw_at lw_m1 68 rfl) rfl
theorem q138 : (Jvm.Cond.fieldLink "java/util/ArrayList" (48 : Nat) "java/util/ArrayList" "size" "I") ∈ lw_all := lw_g (lw_at lw_m1 69 rfl) rfl
theorem q140 : (Jvm.Cond.fieldLink "java/util/ArrayList" (63 : Nat) "java/util/ArrayList" "modCount" "I") ∈ lw_all := lw_g (lw_at lw_m1 71 rfl) rfl
theorem q141 : (Jvm.Cond.sameField "java/util/ArrayList" "java/util/AbstractList" "modCount" "I") ∈ lw_all := lw_g (lw_at lw_m1 72 rfl) rfl
theorem q142 : (Jvm.Cond.lays "java/util/ArrayList" "java/util/ArrayList" "elementData" "[Ljava/lang/Object;") ∈ lw_all := lw_g (lw_at lw_m1 73 rfl) rfl
theorem q143 : (Jvm.Cond.soleField "java/util/ArrayList" "elementData") ∈ lw_all := lw_g (lw_at lw_m1 74 rfl) rfl
theorem q144 : (Jvm.Cond.lays "java/util/ArrayList" "java/util/ArrayList" "size" "I") ∈ lw_all := lw_g (lw_at lw_m1 75 rfl) rfl
theorem q145 : (Jvm.Cond.soleField "java/util/ArrayList" "size") ∈ lw_all := lw_g (lw_at lw_m1 76 rfl) rfl
theorem q146 : (Jvm.Cond.lays "java/util/ArrayList" "java/util/AbstractList" "modCount" "I") ∈ lw_all := lw_g (lw_at lw_m1 77 rfl) rfl
theorem q148 : (Jvm.Cond.superclass "java/util/ArrayList" "java/util/AbstractList") ∈ lw_all := lw_g (lw_at lw_m1 79 rfl) rfl
theorem q407 : (Jvm.Cond.castable "java/util/ArrayList" "java/util/List") ∈ lw_tbl := lw_at lw_m2 98 rfl
theorem q408 : (Jvm.Cond.selects "java/util/ArrayList" ({ cls := "java/util/List", name := "size", desc := "()I" } : Jvm.MethodName) ({ cls := "java/util/ArrayList", name := "size", desc := "()I" } : Jvm.MethodName)) ∈ lw_all := lw_g (lw_at lw_m2 99 rfl) rfl
theorem q409 : (Jvm.Cond.unhidden "java/util/ArrayList" "size" "()I") ∈ lw_tbl := lw_at lw_m2 100 rfl
theorem q410 : (Jvm.Cond.instanceMethod ({ cls := "java/util/ArrayList", name := "size", desc := "()I" } : Jvm.MethodName)) ∈ lw_all := lw_g (lw_at lw_m2 101 rfl) rfl
theorem q411 : (Jvm.Cond.publicMethod ({ cls := "java/util/ArrayList", name := "size", desc := "()I" } : Jvm.MethodName)) ∈ lw_tbl := lw_at lw_m2 102 rfl
theorem q412 : (Jvm.Cond.code ({ cls := "java/util/ArrayList", name := "size", desc := "()I" } : Jvm.MethodName) prog_44_method_8_code (1 : Nat) (Option.some Jvm.ClassFile.FieldType.int)) ∈ lw_all := lw_g (lw_at lw_m2 103 rfl) rfl
theorem q830 : (Jvm.Cond.selects "java/util/ArrayList" ({ cls := "java/util/List", name := "get", desc := "(I)Ljava/lang/Object;" } : Jvm.MethodName) ({ cls := "java/util/ArrayList", name := "get", desc := "(I)Ljava/lang/Object;" } : Jvm.MethodName)) ∈ lw_all := lw_g (lw_at lw_m4 41 rfl) rfl
theorem q831 : (Jvm.Cond.unhidden "java/util/ArrayList" "get" "(I)Ljava/lang/Object;") ∈ lw_tbl := lw_at lw_m4 42 rfl
theorem q832 : (Jvm.Cond.instanceMethod ({ cls := "java/util/ArrayList", name := "get", desc := "(I)Ljava/lang/Object;" } : Jvm.MethodName)) ∈ lw_all := lw_g (lw_at lw_m4 43 rfl) rfl
theorem q833 : (Jvm.Cond.publicMethod ({ cls := "java/util/ArrayList", name := "get", desc := "(I)Ljava/lang/Object;" } : Jvm.MethodName)) ∈ lw_tbl := lw_at lw_m4 44 rfl
theorem q834 : (Jvm.Cond.code ({ cls := "java/util/ArrayList", name := "get", desc := "(I)Ljava/lang/Object;" } : Jvm.MethodName) prog_44_method_20_code (2 : Nat) (Option.some (Jvm.ClassFile.FieldType.object "java/lang/Object"))) ∈ lw_all := lw_g (lw_at lw_m4 45 rfl) rfl
theorem q835 : (Jvm.Cond.methodLink "java/util/ArrayList" (118 : Nat) ({ cls := "java/util/Objects", name := "checkIndex", desc := "(II)I" } : Jvm.MethodName)) ∈ lw_all := lw_g (lw_at lw_m4 46 rfl) rfl
theorem q839 : (Jvm.Cond.methodLink "java/util/ArrayList" (123 : Nat) ({ cls := "java/util/ArrayList", name := "elementData", desc := "(I)Ljava/lang/Object;" } : Jvm.MethodName)) ∈ lw_all := lw_g (lw_at lw_m4 50 rfl) rfl
theorem q840 : (Jvm.Cond.instanceMethod ({ cls := "java/util/ArrayList", name := "elementData", desc := "(I)Ljava/lang/Object;" } : Jvm.MethodName)) ∈ lw_all := lw_g (lw_at lw_m4 51 rfl) rfl
theorem q841 : (Jvm.Cond.selects "java/util/ArrayList" ({ cls := "java/util/ArrayList", name := "elementData", desc := "(I)Ljava/lang/Object;" } : Jvm.MethodName) ({ cls := "java/util/ArrayList", name := "elementData", desc := "(I)Ljava/lang/Object;" } : Jvm.MethodName)) ∈ lw_all := lw_g (lw_at lw_m4 52 rfl) rfl
theorem q842 : (Jvm.Cond.code ({ cls := "java/util/ArrayList", name := "elementData", desc := "(I)Ljava/lang/Object;" } : Jvm.MethodName) prog_44_method_18_code (2 : Nat) (Option.some (Jvm.ClassFile.FieldType.object "java/lang/Object"))) ∈ lw_all := lw_g (lw_at lw_m4 53 rfl) rfl
theorem q1145 : (Jvm.Cond.selects "java/util/ArrayList" ({ cls := "java/util/List", name := "add", desc := "(Ljava/lang/Object;)Z" } : Jvm.MethodName) ({ cls := "java/util/ArrayList", name := "add", desc := "(Ljava/lang/Object;)Z" } : Jvm.MethodName)) ∈ lw_all := lw_g (lw_at lw_m5 116 rfl) rfl
theorem q1146 : (Jvm.Cond.unhidden "java/util/ArrayList" "add" "(Ljava/lang/Object;)Z") ∈ lw_tbl := lw_at lw_m5 117 rfl
theorem q1147 : (Jvm.Cond.instanceMethod ({ cls := "java/util/ArrayList", name := "add", desc := "(Ljava/lang/Object;)Z" } : Jvm.MethodName)) ∈ lw_all := lw_g (lw_at lw_m5 118 rfl) rfl
theorem q1148 : (Jvm.Cond.publicMethod ({ cls := "java/util/ArrayList", name := "add", desc := "(Ljava/lang/Object;)Z" } : Jvm.MethodName)) ∈ lw_tbl := lw_at lw_m5 119 rfl
theorem q1149 : (Jvm.Cond.code ({ cls := "java/util/ArrayList", name := "add", desc := "(Ljava/lang/Object;)Z" } : Jvm.MethodName) prog_44_method_25_code (2 : Nat) (Option.some Jvm.ClassFile.FieldType.boolean)) ∈ lw_all := lw_g (lw_at lw_m5 120 rfl) rfl
theorem q1150 : (Jvm.Cond.methodLink "java/util/ArrayList" (131 : Nat) ({ cls := "java/util/ArrayList", name := "add", desc := "(Ljava/lang/Object;[Ljava/lang/Object;I)V" } : Jvm.MethodName)) ∈ lw_all := lw_g (lw_at lw_m5 121 rfl) rfl
theorem q1151 : (Jvm.Cond.privateMethod ({ cls := "java/util/ArrayList", name := "add", desc := "(Ljava/lang/Object;[Ljava/lang/Object;I)V" } : Jvm.MethodName)) ∈ lw_tbl := lw_at lw_m5 122 rfl
theorem q1152 : (Jvm.Cond.instanceMethod ({ cls := "java/util/ArrayList", name := "add", desc := "(Ljava/lang/Object;[Ljava/lang/Object;I)V" } : Jvm.MethodName)) ∈ lw_all := lw_g (lw_at lw_m5 123 rfl) rfl
theorem q1153 : (Jvm.Cond.code ({ cls := "java/util/ArrayList", name := "add", desc := "(Ljava/lang/Object;[Ljava/lang/Object;I)V" } : Jvm.MethodName) prog_44_method_24_code (4 : Nat) (Option.none : Option Jvm.ClassFile.FieldType)) ∈ lw_all := lw_g (lw_at lw_m5 124 rfl) rfl
theorem q1154 : (Jvm.Cond.methodLink "java/util/ArrayList" (129 : Nat) ({ cls := "java/util/ArrayList", name := "grow", desc := "()[Ljava/lang/Object;" } : Jvm.MethodName)) ∈ lw_all := lw_g (lw_at lw_m5 125 rfl) rfl
theorem q1155 : (Jvm.Cond.privateMethod ({ cls := "java/util/ArrayList", name := "grow", desc := "()[Ljava/lang/Object;" } : Jvm.MethodName)) ∈ lw_tbl := lw_at lw_m5 126 rfl
theorem q1156 : (Jvm.Cond.instanceMethod ({ cls := "java/util/ArrayList", name := "grow", desc := "()[Ljava/lang/Object;" } : Jvm.MethodName)) ∈ lw_all := lw_g (lw_at lw_m5 127 rfl) rfl
theorem q1157 : (Jvm.Cond.code ({ cls := "java/util/ArrayList", name := "grow", desc := "()[Ljava/lang/Object;" } : Jvm.MethodName) prog_44_method_7_code (1 : Nat) (Option.some (Jvm.ClassFile.FieldType.array (Jvm.ClassFile.FieldType.object "java/lang/Object")))) ∈ lw_all := lw_g (lw_at lw_m5 128 rfl) rfl
theorem q1158 : (Jvm.Cond.methodLink "java/util/ArrayList" (69 : Nat) ({ cls := "java/util/ArrayList", name := "grow", desc := "(I)[Ljava/lang/Object;" } : Jvm.MethodName)) ∈ lw_all := lw_g (lw_at lw_m5 129 rfl) rfl
theorem q1159 : (Jvm.Cond.privateMethod ({ cls := "java/util/ArrayList", name := "grow", desc := "(I)[Ljava/lang/Object;" } : Jvm.MethodName)) ∈ lw_tbl := lw_at lw_m5 130 rfl
theorem q1160 : (Jvm.Cond.instanceMethod ({ cls := "java/util/ArrayList", name := "grow", desc := "(I)[Ljava/lang/Object;" } : Jvm.MethodName)) ∈ lw_all := lw_g (lw_at lw_m5 131 rfl) rfl
theorem q1161 : (Jvm.Cond.code ({ cls := "java/util/ArrayList", name := "grow", desc := "(I)[Ljava/lang/Object;" } : Jvm.MethodName) prog_44_method_6_code (4 : Nat) (Option.some (Jvm.ClassFile.FieldType.array (Jvm.ClassFile.FieldType.object "java/lang/Object")))) ∈ lw_all := lw_g (lw_at lw_m5 132 rfl) rfl
theorem q1162 : (Jvm.Cond.methodLink "java/util/ArrayList" (73 : Nat) ({ cls := "jdk/internal/util/ArraysSupport", name := "newLength", desc := "(III)I" } : Jvm.MethodName)) ∈ lw_all := lw_g (lw_at lw_m5 133 rfl) rfl
theorem q1163 : (Jvm.Cond.methodLink "java/util/ArrayList" (66 : Nat) ({ cls := "java/util/Arrays", name := "copyOf", desc := "([Ljava/lang/Object;I)[Ljava/lang/Object;" } : Jvm.MethodName)) ∈ lw_all := lw_g (lw_at lw_m5 134 rfl) rfl
theorem q1187 : (Jvm.Cond.selects "java/util/ArrayList" ({ cls := "java/lang/Object", name := "getClass", desc := "()Ljava/lang/Class;" } : Jvm.MethodName) ({ cls := "java/lang/Object", name := "getClass", desc := "()Ljava/lang/Class;" } : Jvm.MethodName)) ∈ lw_all := lw_g (lw_at lw_m5 158 rfl) rfl
theorem q1194 : (Jvm.Cond.methodLink "java/util/ArrayList" (79 : Nat) ({ cls := "java/lang/Math", name := "max", desc := "(II)I" } : Jvm.MethodName)) ∈ lw_all := lw_g (lw_at lw_m5 165 rfl) rfl
theorem q1195 : (Jvm.Cond.classLink "java/util/ArrayList" (7 : Nat) "java/lang/Object") ∈ lw_all := lw_g (lw_at lw_m5 166 rfl) rfl
theorem q2173 : (Jvm.Cond.castable "java/util/ArrayList" "java/lang/Object") ∈ lw_tbl := lw_at lw_m9 184 rfl
theorem in_J2 : ∀ w ∈ wsJ20, w ∈ lw_all := lw_in wsJ20 [146, 142, 144] (by decide +kernel) (by decide +kernel)
/-! java/util/ArrayDeque -/
set_option maxRecDepth 100000
def RJ8 : String := "java/util/ArrayDeque"
def TJ8 : u_T := fun k => match k with
  | 0 => ("java/util/ArrayDeque", "elements", "[Ljava/lang/Object;", false)
  | 1 => ("java/util/ArrayDeque", "head", "I", false)
  | _ => ("java/util/ArrayDeque", "tail", "I", false)
def tyJ8 : Nat → FieldType := fun k => match k with
  | 0 => .array (.object "java/lang/Object")
  | 1 => .int
  | _ => .int
abbrev wsJ80 : List Cond := u_ws RJ8 TJ8 3
theorem nmJ8 : ∀ a, a < 3 → ∀ b, b < 3 → a ≠ b → (TJ8 a).2.1 ≠ (TJ8 b).2.1 := by decide +kernel
theorem tyJ8_ok : ∀ k, k < 3 → parseFieldDescriptor (TJ8 k).2.2.1 = some (tyJ8 k) := by decide +kernel
abbrev cJ8_init : ByteArray := prog_43_method_3_code
def yJ8_init : MethodName := ⟨RJ8, "<init>", "()V"⟩
def dkwJ8_init_0 : List UInt8 := [42, 183, 0, 42, 42, 16, 17, 189, 0, 47, 181, 0, 3, 177]
abbrev dktJ8_init_0 : List UInt8 := dkwJ8_init_0 ++ []
theorem dksJ8_init_0 : cJ8_init.data.toList.drop 0 = dktJ8_init_0 := by decide +kernel
theorem dJ8_init_0 : decode cJ8_init 0 = .ok (.aload_n 0, 1) := dk_42 (dk_at dksJ8_init_0 0 rfl rfl)
theorem dJ8_init_1 : decode cJ8_init 1 = .ok (.invokespecial 42, 3) := dk_183 0 42 (dk_at dksJ8_init_0 1 rfl rfl)
theorem dJ8_init_4 : decode cJ8_init 4 = .ok (.aload_n 0, 1) := dk_42 (dk_at dksJ8_init_0 4 rfl rfl)
theorem dJ8_init_5 : decode cJ8_init 5 = .ok (.bipush 17, 2) := dk_16 17 (dk_at dksJ8_init_0 5 rfl rfl)
theorem dJ8_init_7 : decode cJ8_init 7 = .ok (.anewarray 47, 3) := dk_189 0 47 (dk_at dksJ8_init_0 7 rfl rfl)
theorem dJ8_init_10 : decode cJ8_init 10 = .ok (.putfield 3, 3) := dk_181 0 3 (dk_at dksJ8_init_0 10 rfl rfl)
theorem dJ8_init_13 : decode cJ8_init 13 = .ok (.return_, 1) := dk_177 (dk_at dksJ8_init_0 13 rfl rfl)
abbrev cJ8_size : ByteArray := prog_43_method_37_code
def yJ8_size : MethodName := ⟨RJ8, "size", "()I"⟩
def dkwJ8_size_0 : List UInt8 := [42, 180, 0, 20, 42, 180, 0, 24, 42, 180, 0, 3, 190, 184, 0, 127, 172]
abbrev dktJ8_size_0 : List UInt8 := dkwJ8_size_0 ++ []
theorem dksJ8_size_0 : cJ8_size.data.toList.drop 0 = dktJ8_size_0 := by decide +kernel
theorem dJ8_size_0 : decode cJ8_size 0 = .ok (.aload_n 0, 1) := dk_42 (dk_at dksJ8_size_0 0 rfl rfl)
theorem dJ8_size_1 : decode cJ8_size 1 = .ok (.getfield 20, 3) := dk_180 0 20 (dk_at dksJ8_size_0 1 rfl rfl)
theorem dJ8_size_4 : decode cJ8_size 4 = .ok (.aload_n 0, 1) := dk_42 (dk_at dksJ8_size_0 4 rfl rfl)
theorem dJ8_size_5 : decode cJ8_size 5 = .ok (.getfield 24, 3) := dk_180 0 24 (dk_at dksJ8_size_0 5 rfl rfl)
theorem dJ8_size_8 : decode cJ8_size 8 = .ok (.aload_n 0, 1) := dk_42 (dk_at dksJ8_size_0 8 rfl rfl)
theorem dJ8_size_9 : decode cJ8_size 9 = .ok (.getfield 3, 3) := dk_180 0 3 (dk_at dksJ8_size_0 9 rfl rfl)
theorem dJ8_size_12 : decode cJ8_size 12 = .ok (.arraylength, 1) := dk_190 (dk_at dksJ8_size_0 12 rfl rfl)
theorem dJ8_size_13 : decode cJ8_size 13 = .ok (.invokestatic 127, 3) := dk_184 0 127 (dk_at dksJ8_size_0 13 rfl rfl)
theorem dJ8_size_16 : decode cJ8_size 16 = .ok (.ireturn, 1) := dk_172 (dk_at dksJ8_size_0 16 rfl rfl)
abbrev cJ8_sub : ByteArray := prog_43_method_9_code
def yJ8_sub : MethodName := ⟨RJ8, "sub", "(III)I"⟩
def dkwJ8_sub_0 : List UInt8 := [26, 27, 100, 89, 59, 156, 0, 7, 26, 28, 96, 59, 26, 172]
abbrev dktJ8_sub_0 : List UInt8 := dkwJ8_sub_0 ++ []
theorem dksJ8_sub_0 : cJ8_sub.data.toList.drop 0 = dktJ8_sub_0 := by decide +kernel
theorem dJ8_sub_0 : decode cJ8_sub 0 = .ok (.iload_n 0, 1) := dk_26 (dk_at dksJ8_sub_0 0 rfl rfl)
theorem dJ8_sub_1 : decode cJ8_sub 1 = .ok (.iload_n 1, 1) := dk_27 (dk_at dksJ8_sub_0 1 rfl rfl)
theorem dJ8_sub_2 : decode cJ8_sub 2 = .ok (.isub, 1) := dk_100 (dk_at dksJ8_sub_0 2 rfl rfl)
theorem dJ8_sub_3 : decode cJ8_sub 3 = .ok (.dup, 1) := dk_89 (dk_at dksJ8_sub_0 3 rfl rfl)
theorem dJ8_sub_4 : decode cJ8_sub 4 = .ok (.istore_n 0, 1) := dk_59 (dk_at dksJ8_sub_0 4 rfl rfl)
theorem dJ8_sub_5 : decode cJ8_sub 5 = .ok (.ifCond .ge 7, 3) := dk_156 0 7 (dk_at dksJ8_sub_0 5 rfl rfl)
theorem dJ8_sub_8 : decode cJ8_sub 8 = .ok (.iload_n 0, 1) := dk_26 (dk_at dksJ8_sub_0 8 rfl rfl)
theorem dJ8_sub_9 : decode cJ8_sub 9 = .ok (.iload_n 2, 1) := dk_28 (dk_at dksJ8_sub_0 9 rfl rfl)
theorem dJ8_sub_10 : decode cJ8_sub 10 = .ok (.iadd, 1) := dk_96 (dk_at dksJ8_sub_0 10 rfl rfl)
theorem dJ8_sub_11 : decode cJ8_sub 11 = .ok (.istore_n 0, 1) := dk_59 (dk_at dksJ8_sub_0 11 rfl rfl)
theorem dJ8_sub_12 : decode cJ8_sub 12 = .ok (.iload_n 0, 1) := dk_26 (dk_at dksJ8_sub_0 12 rfl rfl)
theorem dJ8_sub_13 : decode cJ8_sub 13 = .ok (.ireturn, 1) := dk_172 (dk_at dksJ8_sub_0 13 rfl rfl)
abbrev cJ8_removeFirst : ByteArray := prog_43_method_18_code
def yJ8_removeFirst : MethodName := ⟨RJ8, "removeFirst", "()Ljava/lang/Object;"⟩
def dkwJ8_removeFirst_0 : List UInt8 := [42, 182, 0, 93, 76, 43, 199, 0, 11, 187, 0, 97, 89, 183, 0, 99, 191, 43, 176]
abbrev dktJ8_removeFirst_0 : List UInt8 := dkwJ8_removeFirst_0 ++ []
theorem dksJ8_removeFirst_0 : cJ8_removeFirst.data.toList.drop 0 = dktJ8_removeFirst_0 := by decide +kernel
theorem dJ8_removeFirst_0 : decode cJ8_removeFirst 0 = .ok (.aload_n 0, 1) := dk_42 (dk_at dksJ8_removeFirst_0 0 rfl rfl)
theorem dJ8_removeFirst_1 : decode cJ8_removeFirst 1 = .ok (.invokevirtual 93, 3) := dk_182 0 93 (dk_at dksJ8_removeFirst_0 1 rfl rfl)
theorem dJ8_removeFirst_4 : decode cJ8_removeFirst 4 = .ok (.astore_n 1, 1) := dk_76 (dk_at dksJ8_removeFirst_0 4 rfl rfl)
theorem dJ8_removeFirst_5 : decode cJ8_removeFirst 5 = .ok (.aload_n 1, 1) := dk_43 (dk_at dksJ8_removeFirst_0 5 rfl rfl)
theorem dJ8_removeFirst_6 : decode cJ8_removeFirst 6 = .ok (.ifnonnull 11, 3) := dk_199 0 11 (dk_at dksJ8_removeFirst_0 6 rfl rfl)
theorem dJ8_removeFirst_9 : decode cJ8_removeFirst 9 = .ok (.new 97, 3) := dk_187 0 97 (dk_at dksJ8_removeFirst_0 9 rfl rfl)
theorem dJ8_removeFirst_12 : decode cJ8_removeFirst 12 = .ok (.dup, 1) := dk_89 (dk_at dksJ8_removeFirst_0 12 rfl rfl)
theorem dJ8_removeFirst_13 : decode cJ8_removeFirst 13 = .ok (.invokespecial 99, 3) := dk_183 0 99 (dk_at dksJ8_removeFirst_0 13 rfl rfl)
theorem dJ8_removeFirst_16 : decode cJ8_removeFirst 16 = .ok (.athrow, 1) := dk_191 (dk_at dksJ8_removeFirst_0 16 rfl rfl)
theorem dJ8_removeFirst_17 : decode cJ8_removeFirst 17 = .ok (.aload_n 1, 1) := dk_43 (dk_at dksJ8_removeFirst_0 17 rfl rfl)
theorem dJ8_removeFirst_18 : decode cJ8_removeFirst 18 = .ok (.areturn, 1) := dk_176 (dk_at dksJ8_removeFirst_0 18 rfl rfl)
abbrev cJ8_pollFirst : ByteArray := prog_43_method_20_code
def yJ8_pollFirst : MethodName := ⟨RJ8, "pollFirst", "()Ljava/lang/Object;"⟩
def dkwJ8_pollFirst_1 : List UInt8 := [42, 28, 43, 190, 184, 0, 74, 181, 0, 24, 45, 176]
abbrev dktJ8_pollFirst_1 : List UInt8 := dkwJ8_pollFirst_1 ++ []
def dkwJ8_pollFirst_0 : List UInt8 := [42, 180, 0, 3, 89, 76, 42, 180, 0, 24, 89, 61, 184, 0, 103, 78, 45, 198, 0, 17, 43, 28, 1, 83]
abbrev dktJ8_pollFirst_0 : List UInt8 := dkwJ8_pollFirst_0 ++ dktJ8_pollFirst_1
theorem dksJ8_pollFirst_0 : cJ8_pollFirst.data.toList.drop 0 = dktJ8_pollFirst_0 := by decide +kernel
theorem dksJ8_pollFirst_1 : cJ8_pollFirst.data.toList.drop 24 = dktJ8_pollFirst_1 := dk_seg dksJ8_pollFirst_0 24 rfl rfl
theorem dJ8_pollFirst_0 : decode cJ8_pollFirst 0 = .ok (.aload_n 0, 1) := dk_42 (dk_at dksJ8_pollFirst_0 0 rfl rfl)
theorem dJ8_pollFirst_1 : decode cJ8_pollFirst 1 = .ok (.getfield 3, 3) := dk_180 0 3 (dk_at dksJ8_pollFirst_0 1 rfl rfl)
theorem dJ8_pollFirst_4 : decode cJ8_pollFirst 4 = .ok (.dup, 1) := dk_89 (dk_at dksJ8_pollFirst_0 4 rfl rfl)
theorem dJ8_pollFirst_5 : decode cJ8_pollFirst 5 = .ok (.astore_n 1, 1) := dk_76 (dk_at dksJ8_pollFirst_0 5 rfl rfl)
theorem dJ8_pollFirst_6 : decode cJ8_pollFirst 6 = .ok (.aload_n 0, 1) := dk_42 (dk_at dksJ8_pollFirst_0 6 rfl rfl)
theorem dJ8_pollFirst_7 : decode cJ8_pollFirst 7 = .ok (.getfield 24, 3) := dk_180 0 24 (dk_at dksJ8_pollFirst_0 7 rfl rfl)
theorem dJ8_pollFirst_10 : decode cJ8_pollFirst 10 = .ok (.dup, 1) := dk_89 (dk_at dksJ8_pollFirst_0 10 rfl rfl)
theorem dJ8_pollFirst_11 : decode cJ8_pollFirst 11 = .ok (.istore_n 2, 1) := dk_61 (dk_at dksJ8_pollFirst_0 11 rfl rfl)
theorem dJ8_pollFirst_12 : decode cJ8_pollFirst 12 = .ok (.invokestatic 103, 3) := dk_184 0 103 (dk_at dksJ8_pollFirst_0 12 rfl rfl)
theorem dJ8_pollFirst_15 : decode cJ8_pollFirst 15 = .ok (.astore_n 3, 1) := dk_78 (dk_at dksJ8_pollFirst_0 15 rfl rfl)
theorem dJ8_pollFirst_16 : decode cJ8_pollFirst 16 = .ok (.aload_n 3, 1) := dk_45 (dk_at dksJ8_pollFirst_0 16 rfl rfl)
theorem dJ8_pollFirst_17 : decode cJ8_pollFirst 17 = .ok (.ifnull 17, 3) := dk_198 0 17 (dk_at dksJ8_pollFirst_0 17 rfl rfl)
theorem dJ8_pollFirst_20 : decode cJ8_pollFirst 20 = .ok (.aload_n 1, 1) := dk_43 (dk_at dksJ8_pollFirst_0 20 rfl rfl)
theorem dJ8_pollFirst_21 : decode cJ8_pollFirst 21 = .ok (.iload_n 2, 1) := dk_28 (dk_at dksJ8_pollFirst_0 21 rfl rfl)
theorem dJ8_pollFirst_22 : decode cJ8_pollFirst 22 = .ok (.aconst_null, 1) := dk_1 (dk_at dksJ8_pollFirst_0 22 rfl rfl)
theorem dJ8_pollFirst_23 : decode cJ8_pollFirst 23 = .ok (.aastore, 1) := dk_83 (dk_at dksJ8_pollFirst_0 23 rfl rfl)
theorem dJ8_pollFirst_24 : decode cJ8_pollFirst 24 = .ok (.aload_n 0, 1) := dk_42 (dk_at dksJ8_pollFirst_1 0 rfl rfl)
theorem dJ8_pollFirst_25 : decode cJ8_pollFirst 25 = .ok (.iload_n 2, 1) := dk_28 (dk_at dksJ8_pollFirst_1 1 rfl rfl)
theorem dJ8_pollFirst_26 : decode cJ8_pollFirst 26 = .ok (.aload_n 1, 1) := dk_43 (dk_at dksJ8_pollFirst_1 2 rfl rfl)
theorem dJ8_pollFirst_27 : decode cJ8_pollFirst 27 = .ok (.arraylength, 1) := dk_190 (dk_at dksJ8_pollFirst_1 3 rfl rfl)
theorem dJ8_pollFirst_28 : decode cJ8_pollFirst 28 = .ok (.invokestatic 74, 3) := dk_184 0 74 (dk_at dksJ8_pollFirst_1 4 rfl rfl)
theorem dJ8_pollFirst_31 : decode cJ8_pollFirst 31 = .ok (.putfield 24, 3) := dk_181 0 24 (dk_at dksJ8_pollFirst_1 7 rfl rfl)
theorem dJ8_pollFirst_34 : decode cJ8_pollFirst 34 = .ok (.aload_n 3, 1) := dk_45 (dk_at dksJ8_pollFirst_1 10 rfl rfl)
theorem dJ8_pollFirst_35 : decode cJ8_pollFirst 35 = .ok (.areturn, 1) := dk_176 (dk_at dksJ8_pollFirst_1 11 rfl rfl)
abbrev cJ8_elementAt : ByteArray := prog_43_method_10_code
def yJ8_elementAt : MethodName := ⟨RJ8, "elementAt", "([Ljava/lang/Object;I)Ljava/lang/Object;"⟩
def dkwJ8_elementAt_0 : List UInt8 := [42, 27, 50, 176]
abbrev dktJ8_elementAt_0 : List UInt8 := dkwJ8_elementAt_0 ++ []
theorem dksJ8_elementAt_0 : cJ8_elementAt.data.toList.drop 0 = dktJ8_elementAt_0 := by decide +kernel
theorem dJ8_elementAt_0 : decode cJ8_elementAt 0 = .ok (.aload_n 0, 1) := dk_42 (dk_at dksJ8_elementAt_0 0 rfl rfl)
theorem dJ8_elementAt_1 : decode cJ8_elementAt 1 = .ok (.iload_n 1, 1) := dk_27 (dk_at dksJ8_elementAt_0 1 rfl rfl)
theorem dJ8_elementAt_2 : decode cJ8_elementAt 2 = .ok (.aaload, 1) := dk_50 (dk_at dksJ8_elementAt_0 2 rfl rfl)
theorem dJ8_elementAt_3 : decode cJ8_elementAt 3 = .ok (.areturn, 1) := dk_176 (dk_at dksJ8_elementAt_0 3 rfl rfl)
abbrev cJ8_inc : ByteArray := prog_43_method_6_code
def yJ8_inc : MethodName := ⟨RJ8, "inc", "(II)I"⟩
def dkwJ8_inc_0 : List UInt8 := [132, 0, 1, 26, 27, 161, 0, 5, 3, 59, 26, 172]
abbrev dktJ8_inc_0 : List UInt8 := dkwJ8_inc_0 ++ []
theorem dksJ8_inc_0 : cJ8_inc.data.toList.drop 0 = dktJ8_inc_0 := by decide +kernel
theorem dJ8_inc_0 : decode cJ8_inc 0 = .ok (.iinc 0 1, 3) := dk_132 0 1 (dk_at dksJ8_inc_0 0 rfl rfl)
theorem dJ8_inc_3 : decode cJ8_inc 3 = .ok (.iload_n 0, 1) := dk_26 (dk_at dksJ8_inc_0 3 rfl rfl)
theorem dJ8_inc_4 : decode cJ8_inc 4 = .ok (.iload_n 1, 1) := dk_27 (dk_at dksJ8_inc_0 4 rfl rfl)
theorem dJ8_inc_5 : decode cJ8_inc 5 = .ok (.if_icmp .lt 5, 3) := dk_161 0 5 (dk_at dksJ8_inc_0 5 rfl rfl)
theorem dJ8_inc_8 : decode cJ8_inc 8 = .ok (.iconst 0, 1) := dk_3 (dk_at dksJ8_inc_0 8 rfl rfl)
theorem dJ8_inc_9 : decode cJ8_inc 9 = .ok (.istore_n 0, 1) := dk_59 (dk_at dksJ8_inc_0 9 rfl rfl)
theorem dJ8_inc_10 : decode cJ8_inc 10 = .ok (.iload_n 0, 1) := dk_26 (dk_at dksJ8_inc_0 10 rfl rfl)
theorem dJ8_inc_11 : decode cJ8_inc 11 = .ok (.ireturn, 1) := dk_172 (dk_at dksJ8_inc_0 11 rfl rfl)
abbrev cJ8_addLast : ByteArray := prog_43_method_13_code
def yJ8_addLast : MethodName := ⟨RJ8, "addLast", "(Ljava/lang/Object;)V"⟩
def dkwJ8_addLast_2 : List UInt8 := [182, 0, 71, 177]
abbrev dktJ8_addLast_2 : List UInt8 := dkwJ8_addLast_2 ++ []
def dkwJ8_addLast_1 : List UInt8 := [42, 180, 0, 24, 42, 42, 180, 0, 20, 44, 190, 184, 0, 74, 90, 181, 0, 20, 160, 0, 8, 42, 4]
abbrev dktJ8_addLast_1 : List UInt8 := dkwJ8_addLast_1 ++ dktJ8_addLast_2
def dkwJ8_addLast_0 : List UInt8 := [43, 199, 0, 11, 187, 0, 65, 89, 183, 0, 67, 191, 42, 180, 0, 3, 77, 44, 42, 180, 0, 20, 43, 83]
abbrev dktJ8_addLast_0 : List UInt8 := dkwJ8_addLast_0 ++ dktJ8_addLast_1
theorem dksJ8_addLast_0 : cJ8_addLast.data.toList.drop 0 = dktJ8_addLast_0 := by decide +kernel
theorem dksJ8_addLast_1 : cJ8_addLast.data.toList.drop 24 = dktJ8_addLast_1 := dk_seg dksJ8_addLast_0 24 rfl rfl
theorem dksJ8_addLast_2 : cJ8_addLast.data.toList.drop 47 = dktJ8_addLast_2 := dk_seg dksJ8_addLast_1 23 rfl rfl
theorem dJ8_addLast_0 : decode cJ8_addLast 0 = .ok (.aload_n 1, 1) := dk_43 (dk_at dksJ8_addLast_0 0 rfl rfl)
theorem dJ8_addLast_1 : decode cJ8_addLast 1 = .ok (.ifnonnull 11, 3) := dk_199 0 11 (dk_at dksJ8_addLast_0 1 rfl rfl)
theorem dJ8_addLast_4 : decode cJ8_addLast 4 = .ok (.new 65, 3) := dk_187 0 65 (dk_at dksJ8_addLast_0 4 rfl rfl)
theorem dJ8_addLast_7 : decode cJ8_addLast 7 = .ok (.dup, 1) := dk_89 (dk_at dksJ8_addLast_0 7 rfl rfl)
theorem dJ8_addLast_8 : decode cJ8_addLast 8 = .ok (.invokespecial 67, 3) := dk_183 0 67 (dk_at dksJ8_addLast_0 8 rfl rfl)
theorem dJ8_addLast_11 : decode cJ8_addLast 11 = .ok (.athrow, 1) := dk_191 (dk_at dksJ8_addLast_0 11 rfl rfl)
theorem dJ8_addLast_12 : decode cJ8_addLast 12 = .ok (.aload_n 0, 1) := dk_42 (dk_at dksJ8_addLast_0 12 rfl rfl)
theorem dJ8_addLast_13 : decode cJ8_addLast 13 = .ok (.getfield 3, 3) := dk_180 0 3 (dk_at dksJ8_addLast_0 13 rfl rfl)
theorem dJ8_addLast_16 : decode cJ8_addLast 16 = .ok (.astore_n 2, 1) := dk_77 (dk_at dksJ8_addLast_0 16 rfl rfl)
theorem dJ8_addLast_17 : decode cJ8_addLast 17 = .ok (.aload_n 2, 1) := dk_44 (dk_at dksJ8_addLast_0 17 rfl rfl)
theorem dJ8_addLast_18 : decode cJ8_addLast 18 = .ok (.aload_n 0, 1) := dk_42 (dk_at dksJ8_addLast_0 18 rfl rfl)
theorem dJ8_addLast_19 : decode cJ8_addLast 19 = .ok (.getfield 20, 3) := dk_180 0 20 (dk_at dksJ8_addLast_0 19 rfl rfl)
theorem dJ8_addLast_22 : decode cJ8_addLast 22 = .ok (.aload_n 1, 1) := dk_43 (dk_at dksJ8_addLast_0 22 rfl rfl)
theorem dJ8_addLast_23 : decode cJ8_addLast 23 = .ok (.aastore, 1) := dk_83 (dk_at dksJ8_addLast_0 23 rfl rfl)
theorem dJ8_addLast_24 : decode cJ8_addLast 24 = .ok (.aload_n 0, 1) := dk_42 (dk_at dksJ8_addLast_1 0 rfl rfl)
theorem dJ8_addLast_25 : decode cJ8_addLast 25 = .ok (.getfield 24, 3) := dk_180 0 24 (dk_at dksJ8_addLast_1 1 rfl rfl)
theorem dJ8_addLast_28 : decode cJ8_addLast 28 = .ok (.aload_n 0, 1) := dk_42 (dk_at dksJ8_addLast_1 4 rfl rfl)
theorem dJ8_addLast_29 : decode cJ8_addLast 29 = .ok (.aload_n 0, 1) := dk_42 (dk_at dksJ8_addLast_1 5 rfl rfl)
theorem dJ8_addLast_30 : decode cJ8_addLast 30 = .ok (.getfield 20, 3) := dk_180 0 20 (dk_at dksJ8_addLast_1 6 rfl rfl)
theorem dJ8_addLast_33 : decode cJ8_addLast 33 = .ok (.aload_n 2, 1) := dk_44 (dk_at dksJ8_addLast_1 9 rfl rfl)
theorem dJ8_addLast_34 : decode cJ8_addLast 34 = .ok (.arraylength, 1) := dk_190 (dk_at dksJ8_addLast_1 10 rfl rfl)
theorem dJ8_addLast_35 : decode cJ8_addLast 35 = .ok (.invokestatic 74, 3) := dk_184 0 74 (dk_at dksJ8_addLast_1 11 rfl rfl)
theorem dJ8_addLast_38 : decode cJ8_addLast 38 = .ok (.dup_x1, 1) := dk_90 (dk_at dksJ8_addLast_1 14 rfl rfl)
theorem dJ8_addLast_39 : decode cJ8_addLast 39 = .ok (.putfield 20, 3) := dk_181 0 20 (dk_at dksJ8_addLast_1 15 rfl rfl)
theorem dJ8_addLast_42 : decode cJ8_addLast 42 = .ok (.if_icmp .ne 8, 3) := dk_160 0 8 (dk_at dksJ8_addLast_1 18 rfl rfl)
theorem dJ8_addLast_45 : decode cJ8_addLast 45 = .ok (.aload_n 0, 1) := dk_42 (dk_at dksJ8_addLast_1 21 rfl rfl)
theorem dJ8_addLast_46 : decode cJ8_addLast 46 = .ok (.iconst 1, 1) := dk_4 (dk_at dksJ8_addLast_1 22 rfl rfl)
theorem dJ8_addLast_47 : decode cJ8_addLast 47 = .ok (.invokevirtual 71, 3) := dk_182 0 71 (dk_at dksJ8_addLast_2 0 rfl rfl)
theorem dJ8_addLast_50 : decode cJ8_addLast 50 = .ok (.return_, 1) := dk_177 (dk_at dksJ8_addLast_2 3 rfl rfl)
abbrev cJ8_grow : ByteArray := prog_43_method_1_code
def yJ8_grow : MethodName := ⟨RJ8, "grow", "(I)V"⟩
def dkwJ8_grow_7 : List UInt8 := [177]
abbrev dktJ8_grow_7 : List UInt8 := dkwJ8_grow_7 ++ []
def dkwJ8_grow_6 : List UInt8 := [181, 0, 24, 54, 8, 21, 7, 21, 8, 162, 0, 15, 25, 5, 21, 7, 1, 83, 132, 7, 1, 167, 255, 240]
abbrev dktJ8_grow_6 : List UInt8 := dkwJ8_grow_6 ++ dktJ8_grow_7
def dkwJ8_grow_5 : List UInt8 := [42, 180, 0, 24, 100, 184, 0, 27, 42, 180, 0, 24, 54, 7, 42, 89, 180, 0, 24, 21, 6, 96, 90]
abbrev dktJ8_grow_5 : List UInt8 := dkwJ8_grow_5 ++ dktJ8_grow_6
def dkwJ8_grow_4 : List UInt8 := [198, 0, 71, 29, 28, 100, 54, 6, 25, 5, 42, 180, 0, 24, 25, 5, 42, 180, 0, 24, 21, 6, 96, 28]
abbrev dktJ8_grow_4 : List UInt8 := dkwJ8_grow_4 ++ dktJ8_grow_5
def dkwJ8_grow_3 : List UInt8 := [180, 0, 24, 161, 0, 24, 42, 180, 0, 20, 42, 180, 0, 24, 160, 0, 81, 25, 5, 42, 180, 0, 24, 50]
abbrev dktJ8_grow_3 : List UInt8 := dkwJ8_grow_3 ++ dktJ8_grow_4
def dkwJ8_grow_2 : List UInt8 := [182, 0, 10, 62, 42, 42, 180, 0, 3, 29, 184, 0, 14, 90, 181, 0, 3, 58, 5, 42, 180, 0, 20, 42]
abbrev dktJ8_grow_2 : List UInt8 := dkwJ8_grow_2 ++ dktJ8_grow_3
def dkwJ8_grow_1 : List UInt8 := [21, 4, 27, 161, 0, 15, 28, 21, 4, 96, 89, 62, 18, 9, 100, 158, 0, 11, 42, 27, 21, 4]
abbrev dktJ8_grow_1 : List UInt8 := dkwJ8_grow_1 ++ dktJ8_grow_2
def dkwJ8_grow_0 : List UInt8 := [42, 180, 0, 3, 190, 61, 28, 16, 64, 162, 0, 9, 28, 5, 96, 167, 0, 6, 28, 4, 122, 54, 4]
abbrev dktJ8_grow_0 : List UInt8 := dkwJ8_grow_0 ++ dktJ8_grow_1
theorem dksJ8_grow_0 : cJ8_grow.data.toList.drop 0 = dktJ8_grow_0 := by decide +kernel
theorem dksJ8_grow_1 : cJ8_grow.data.toList.drop 23 = dktJ8_grow_1 := dk_seg dksJ8_grow_0 23 rfl rfl
theorem dksJ8_grow_2 : cJ8_grow.data.toList.drop 45 = dktJ8_grow_2 := dk_seg dksJ8_grow_1 22 rfl rfl
theorem dksJ8_grow_3 : cJ8_grow.data.toList.drop 69 = dktJ8_grow_3 := dk_seg dksJ8_grow_2 24 rfl rfl
theorem dksJ8_grow_4 : cJ8_grow.data.toList.drop 93 = dktJ8_grow_4 := dk_seg dksJ8_grow_3 24 rfl rfl
theorem dksJ8_grow_5 : cJ8_grow.data.toList.drop 117 = dktJ8_grow_5 := dk_seg dksJ8_grow_4 24 rfl rfl
theorem dksJ8_grow_6 : cJ8_grow.data.toList.drop 140 = dktJ8_grow_6 := dk_seg dksJ8_grow_5 23 rfl rfl
theorem dksJ8_grow_7 : cJ8_grow.data.toList.drop 164 = dktJ8_grow_7 := dk_seg dksJ8_grow_6 24 rfl rfl
theorem dJ8_grow_0 : decode cJ8_grow 0 = .ok (.aload_n 0, 1) := dk_42 (dk_at dksJ8_grow_0 0 rfl rfl)
theorem dJ8_grow_1 : decode cJ8_grow 1 = .ok (.getfield 3, 3) := dk_180 0 3 (dk_at dksJ8_grow_0 1 rfl rfl)
theorem dJ8_grow_4 : decode cJ8_grow 4 = .ok (.arraylength, 1) := dk_190 (dk_at dksJ8_grow_0 4 rfl rfl)
theorem dJ8_grow_5 : decode cJ8_grow 5 = .ok (.istore_n 2, 1) := dk_61 (dk_at dksJ8_grow_0 5 rfl rfl)
theorem dJ8_grow_6 : decode cJ8_grow 6 = .ok (.iload_n 2, 1) := dk_28 (dk_at dksJ8_grow_0 6 rfl rfl)
theorem dJ8_grow_7 : decode cJ8_grow 7 = .ok (.bipush 64, 2) := dk_16 64 (dk_at dksJ8_grow_0 7 rfl rfl)
theorem dJ8_grow_9 : decode cJ8_grow 9 = .ok (.if_icmp .ge 9, 3) := dk_162 0 9 (dk_at dksJ8_grow_0 9 rfl rfl)
theorem dJ8_grow_12 : decode cJ8_grow 12 = .ok (.iload_n 2, 1) := dk_28 (dk_at dksJ8_grow_0 12 rfl rfl)
theorem dJ8_grow_13 : decode cJ8_grow 13 = .ok (.iconst 2, 1) := dk_5 (dk_at dksJ8_grow_0 13 rfl rfl)
theorem dJ8_grow_14 : decode cJ8_grow 14 = .ok (.iadd, 1) := dk_96 (dk_at dksJ8_grow_0 14 rfl rfl)
theorem dJ8_grow_15 : decode cJ8_grow 15 = .ok (.goto 6, 3) := dk_167 0 6 (dk_at dksJ8_grow_0 15 rfl rfl)
theorem dJ8_grow_18 : decode cJ8_grow 18 = .ok (.iload_n 2, 1) := dk_28 (dk_at dksJ8_grow_0 18 rfl rfl)
theorem dJ8_grow_19 : decode cJ8_grow 19 = .ok (.iconst 1, 1) := dk_4 (dk_at dksJ8_grow_0 19 rfl rfl)
theorem dJ8_grow_20 : decode cJ8_grow 20 = .ok (.ishr, 1) := dk_122 (dk_at dksJ8_grow_0 20 rfl rfl)
theorem dJ8_grow_21 : decode cJ8_grow 21 = .ok (.istore 4, 2) := dk_54 4 (dk_at dksJ8_grow_0 21 rfl rfl)
theorem dJ8_grow_23 : decode cJ8_grow 23 = .ok (.iload 4, 2) := dk_21 4 (dk_at dksJ8_grow_1 0 rfl rfl)
theorem dJ8_grow_25 : decode cJ8_grow 25 = .ok (.iload_n 1, 1) := dk_27 (dk_at dksJ8_grow_1 2 rfl rfl)
theorem dJ8_grow_26 : decode cJ8_grow 26 = .ok (.if_icmp .lt 15, 3) := dk_161 0 15 (dk_at dksJ8_grow_1 3 rfl rfl)
theorem dJ8_grow_29 : decode cJ8_grow 29 = .ok (.iload_n 2, 1) := dk_28 (dk_at dksJ8_grow_1 6 rfl rfl)
theorem dJ8_grow_30 : decode cJ8_grow 30 = .ok (.iload 4, 2) := dk_21 4 (dk_at dksJ8_grow_1 7 rfl rfl)
theorem dJ8_grow_32 : decode cJ8_grow 32 = .ok (.iadd, 1) := dk_96 (dk_at dksJ8_grow_1 9 rfl rfl)
theorem dJ8_grow_33 : decode cJ8_grow 33 = .ok (.dup, 1) := dk_89 (dk_at dksJ8_grow_1 10 rfl rfl)
theorem dJ8_grow_34 : decode cJ8_grow 34 = .ok (.istore_n 3, 1) := dk_62 (dk_at dksJ8_grow_1 11 rfl rfl)
theorem dJ8_grow_35 : decode cJ8_grow 35 = .ok (.ldc 9, 2) := dk_18 9 (dk_at dksJ8_grow_1 12 rfl rfl)
theorem dJ8_grow_37 : decode cJ8_grow 37 = .ok (.isub, 1) := dk_100 (dk_at dksJ8_grow_1 14 rfl rfl)
theorem dJ8_grow_38 : decode cJ8_grow 38 = .ok (.ifCond .le 11, 3) := dk_158 0 11 (dk_at dksJ8_grow_1 15 rfl rfl)
theorem dJ8_grow_41 : decode cJ8_grow 41 = .ok (.aload_n 0, 1) := dk_42 (dk_at dksJ8_grow_1 18 rfl rfl)
theorem dJ8_grow_42 : decode cJ8_grow 42 = .ok (.iload_n 1, 1) := dk_27 (dk_at dksJ8_grow_1 19 rfl rfl)
theorem dJ8_grow_43 : decode cJ8_grow 43 = .ok (.iload 4, 2) := dk_21 4 (dk_at dksJ8_grow_1 20 rfl rfl)
theorem dJ8_grow_45 : decode cJ8_grow 45 = .ok (.invokevirtual 10, 3) := dk_182 0 10 (dk_at dksJ8_grow_2 0 rfl rfl)
theorem dJ8_grow_48 : decode cJ8_grow 48 = .ok (.istore_n 3, 1) := dk_62 (dk_at dksJ8_grow_2 3 rfl rfl)
theorem dJ8_grow_49 : decode cJ8_grow 49 = .ok (.aload_n 0, 1) := dk_42 (dk_at dksJ8_grow_2 4 rfl rfl)
theorem dJ8_grow_50 : decode cJ8_grow 50 = .ok (.aload_n 0, 1) := dk_42 (dk_at dksJ8_grow_2 5 rfl rfl)
theorem dJ8_grow_51 : decode cJ8_grow 51 = .ok (.getfield 3, 3) := dk_180 0 3 (dk_at dksJ8_grow_2 6 rfl rfl)
theorem dJ8_grow_54 : decode cJ8_grow 54 = .ok (.iload_n 3, 1) := dk_29 (dk_at dksJ8_grow_2 9 rfl rfl)
theorem dJ8_grow_55 : decode cJ8_grow 55 = .ok (.invokestatic 14, 3) := dk_184 0 14 (dk_at dksJ8_grow_2 10 rfl rfl)
theorem dJ8_grow_58 : decode cJ8_grow 58 = .ok (.dup_x1, 1) := dk_90 (dk_at dksJ8_grow_2 13 rfl rfl)
theorem dJ8_grow_59 : decode cJ8_grow 59 = .ok (.putfield 3, 3) := dk_181 0 3 (dk_at dksJ8_grow_2 14 rfl rfl)
theorem dJ8_grow_62 : decode cJ8_grow 62 = .ok (.astore 5, 2) := dk_58 5 (dk_at dksJ8_grow_2 17 rfl rfl)
theorem dJ8_grow_64 : decode cJ8_grow 64 = .ok (.aload_n 0, 1) := dk_42 (dk_at dksJ8_grow_2 19 rfl rfl)
theorem dJ8_grow_65 : decode cJ8_grow 65 = .ok (.getfield 20, 3) := dk_180 0 20 (dk_at dksJ8_grow_2 20 rfl rfl)
theorem dJ8_grow_68 : decode cJ8_grow 68 = .ok (.aload_n 0, 1) := dk_42 (dk_at dksJ8_grow_2 23 rfl rfl)
theorem dJ8_grow_69 : decode cJ8_grow 69 = .ok (.getfield 24, 3) := dk_180 0 24 (dk_at dksJ8_grow_3 0 rfl rfl)
theorem dJ8_grow_72 : decode cJ8_grow 72 = .ok (.if_icmp .lt 24, 3) := dk_161 0 24 (dk_at dksJ8_grow_3 3 rfl rfl)
theorem dJ8_grow_75 : decode cJ8_grow 75 = .ok (.aload_n 0, 1) := dk_42 (dk_at dksJ8_grow_3 6 rfl rfl)
theorem dJ8_grow_76 : decode cJ8_grow 76 = .ok (.getfield 20, 3) := dk_180 0 20 (dk_at dksJ8_grow_3 7 rfl rfl)
theorem dJ8_grow_79 : decode cJ8_grow 79 = .ok (.aload_n 0, 1) := dk_42 (dk_at dksJ8_grow_3 10 rfl rfl)
theorem dJ8_grow_80 : decode cJ8_grow 80 = .ok (.getfield 24, 3) := dk_180 0 24 (dk_at dksJ8_grow_3 11 rfl rfl)
theorem dJ8_grow_83 : decode cJ8_grow 83 = .ok (.if_icmp .ne 81, 3) := dk_160 0 81 (dk_at dksJ8_grow_3 14 rfl rfl)
theorem dJ8_grow_86 : decode cJ8_grow 86 = .ok (.aload 5, 2) := dk_25 5 (dk_at dksJ8_grow_3 17 rfl rfl)
theorem dJ8_grow_88 : decode cJ8_grow 88 = .ok (.aload_n 0, 1) := dk_42 (dk_at dksJ8_grow_3 19 rfl rfl)
theorem dJ8_grow_89 : decode cJ8_grow 89 = .ok (.getfield 24, 3) := dk_180 0 24 (dk_at dksJ8_grow_3 20 rfl rfl)
theorem dJ8_grow_92 : decode cJ8_grow 92 = .ok (.aaload, 1) := dk_50 (dk_at dksJ8_grow_3 23 rfl rfl)
theorem dJ8_grow_93 : decode cJ8_grow 93 = .ok (.ifnull 71, 3) := dk_198 0 71 (dk_at dksJ8_grow_4 0 rfl rfl)
theorem dJ8_grow_96 : decode cJ8_grow 96 = .ok (.iload_n 3, 1) := dk_29 (dk_at dksJ8_grow_4 3 rfl rfl)
theorem dJ8_grow_97 : decode cJ8_grow 97 = .ok (.iload_n 2, 1) := dk_28 (dk_at dksJ8_grow_4 4 rfl rfl)
theorem dJ8_grow_98 : decode cJ8_grow 98 = .ok (.isub, 1) := dk_100 (dk_at dksJ8_grow_4 5 rfl rfl)
theorem dJ8_grow_99 : decode cJ8_grow 99 = .ok (.istore 6, 2) := dk_54 6 (dk_at dksJ8_grow_4 6 rfl rfl)
theorem dJ8_grow_101 : decode cJ8_grow 101 = .ok (.aload 5, 2) := dk_25 5 (dk_at dksJ8_grow_4 8 rfl rfl)
theorem dJ8_grow_103 : decode cJ8_grow 103 = .ok (.aload_n 0, 1) := dk_42 (dk_at dksJ8_grow_4 10 rfl rfl)
theorem dJ8_grow_104 : decode cJ8_grow 104 = .ok (.getfield 24, 3) := dk_180 0 24 (dk_at dksJ8_grow_4 11 rfl rfl)
theorem dJ8_grow_107 : decode cJ8_grow 107 = .ok (.aload 5, 2) := dk_25 5 (dk_at dksJ8_grow_4 14 rfl rfl)
theorem dJ8_grow_109 : decode cJ8_grow 109 = .ok (.aload_n 0, 1) := dk_42 (dk_at dksJ8_grow_4 16 rfl rfl)
theorem dJ8_grow_110 : decode cJ8_grow 110 = .ok (.getfield 24, 3) := dk_180 0 24 (dk_at dksJ8_grow_4 17 rfl rfl)
theorem dJ8_grow_113 : decode cJ8_grow 113 = .ok (.iload 6, 2) := dk_21 6 (dk_at dksJ8_grow_4 20 rfl rfl)
theorem dJ8_grow_115 : decode cJ8_grow 115 = .ok (.iadd, 1) := dk_96 (dk_at dksJ8_grow_4 22 rfl rfl)
theorem dJ8_grow_116 : decode cJ8_grow 116 = .ok (.iload_n 2, 1) := dk_28 (dk_at dksJ8_grow_4 23 rfl rfl)
theorem dJ8_grow_117 : decode cJ8_grow 117 = .ok (.aload_n 0, 1) := dk_42 (dk_at dksJ8_grow_5 0 rfl rfl)
theorem dJ8_grow_118 : decode cJ8_grow 118 = .ok (.getfield 24, 3) := dk_180 0 24 (dk_at dksJ8_grow_5 1 rfl rfl)
theorem dJ8_grow_121 : decode cJ8_grow 121 = .ok (.isub, 1) := dk_100 (dk_at dksJ8_grow_5 4 rfl rfl)
theorem dJ8_grow_122 : decode cJ8_grow 122 = .ok (.invokestatic 27, 3) := dk_184 0 27 (dk_at dksJ8_grow_5 5 rfl rfl)
theorem dJ8_grow_125 : decode cJ8_grow 125 = .ok (.aload_n 0, 1) := dk_42 (dk_at dksJ8_grow_5 8 rfl rfl)
theorem dJ8_grow_126 : decode cJ8_grow 126 = .ok (.getfield 24, 3) := dk_180 0 24 (dk_at dksJ8_grow_5 9 rfl rfl)
theorem dJ8_grow_129 : decode cJ8_grow 129 = .ok (.istore 7, 2) := dk_54 7 (dk_at dksJ8_grow_5 12 rfl rfl)
theorem dJ8_grow_131 : decode cJ8_grow 131 = .ok (.aload_n 0, 1) := dk_42 (dk_at dksJ8_grow_5 14 rfl rfl)
theorem dJ8_grow_132 : decode cJ8_grow 132 = .ok (.dup, 1) := dk_89 (dk_at dksJ8_grow_5 15 rfl rfl)
theorem dJ8_grow_133 : decode cJ8_grow 133 = .ok (.getfield 24, 3) := dk_180 0 24 (dk_at dksJ8_grow_5 16 rfl rfl)
theorem dJ8_grow_136 : decode cJ8_grow 136 = .ok (.iload 6, 2) := dk_21 6 (dk_at dksJ8_grow_5 19 rfl rfl)
theorem dJ8_grow_138 : decode cJ8_grow 138 = .ok (.iadd, 1) := dk_96 (dk_at dksJ8_grow_5 21 rfl rfl)
theorem dJ8_grow_139 : decode cJ8_grow 139 = .ok (.dup_x1, 1) := dk_90 (dk_at dksJ8_grow_5 22 rfl rfl)
theorem dJ8_grow_140 : decode cJ8_grow 140 = .ok (.putfield 24, 3) := dk_181 0 24 (dk_at dksJ8_grow_6 0 rfl rfl)
theorem dJ8_grow_143 : decode cJ8_grow 143 = .ok (.istore 8, 2) := dk_54 8 (dk_at dksJ8_grow_6 3 rfl rfl)
theorem dJ8_grow_145 : decode cJ8_grow 145 = .ok (.iload 7, 2) := dk_21 7 (dk_at dksJ8_grow_6 5 rfl rfl)
theorem dJ8_grow_147 : decode cJ8_grow 147 = .ok (.iload 8, 2) := dk_21 8 (dk_at dksJ8_grow_6 7 rfl rfl)
theorem dJ8_grow_149 : decode cJ8_grow 149 = .ok (.if_icmp .ge 15, 3) := dk_162 0 15 (dk_at dksJ8_grow_6 9 rfl rfl)
theorem dJ8_grow_152 : decode cJ8_grow 152 = .ok (.aload 5, 2) := dk_25 5 (dk_at dksJ8_grow_6 12 rfl rfl)
theorem dJ8_grow_154 : decode cJ8_grow 154 = .ok (.iload 7, 2) := dk_21 7 (dk_at dksJ8_grow_6 14 rfl rfl)
theorem dJ8_grow_156 : decode cJ8_grow 156 = .ok (.aconst_null, 1) := dk_1 (dk_at dksJ8_grow_6 16 rfl rfl)
theorem dJ8_grow_157 : decode cJ8_grow 157 = .ok (.aastore, 1) := dk_83 (dk_at dksJ8_grow_6 17 rfl rfl)
theorem dJ8_grow_158 : decode cJ8_grow 158 = .ok (.iinc 7 1, 3) := dk_132 7 1 (dk_at dksJ8_grow_6 18 rfl rfl)
theorem dJ8_grow_161 : decode cJ8_grow 161 = .ok (.goto (-16), 3) := dk_167 255 240 (dk_at dksJ8_grow_6 21 rfl rfl)
theorem dJ8_grow_164 : decode cJ8_grow 164 = .ok (.return_, 1) := dk_177 (dk_at dksJ8_grow_7 0 rfl rfl)
abbrev cJ8_newCapacity : ByteArray := prog_43_method_2_code
def yJ8_newCapacity : MethodName := ⟨RJ8, "newCapacity", "(II)I"⟩
def dkwJ8_newCapacity_2 : List UInt8 := [18, 9, 100, 156, 0, 9, 29, 28, 96, 167, 0, 5, 18, 9, 172]
abbrev dktJ8_newCapacity_2 : List UInt8 := dkwJ8_newCapacity_2 ++ []
def dkwJ8_newCapacity_1 : List UInt8 := [187, 0, 33, 89, 18, 35, 183, 0, 37, 191, 18, 41, 172, 27, 28, 164, 0, 6, 21, 4, 172, 29, 28, 96]
abbrev dktJ8_newCapacity_1 : List UInt8 := dkwJ8_newCapacity_1 ++ dktJ8_newCapacity_2
def dkwJ8_newCapacity_0 : List UInt8 := [42, 180, 0, 3, 190, 62, 29, 27, 96, 89, 54, 4, 18, 9, 100, 158, 0, 21, 21, 4, 156, 0, 13]
abbrev dktJ8_newCapacity_0 : List UInt8 := dkwJ8_newCapacity_0 ++ dktJ8_newCapacity_1
theorem dksJ8_newCapacity_0 : cJ8_newCapacity.data.toList.drop 0 = dktJ8_newCapacity_0 := by decide +kernel
theorem dksJ8_newCapacity_1 : cJ8_newCapacity.data.toList.drop 23 = dktJ8_newCapacity_1 := dk_seg dksJ8_newCapacity_0 23 rfl rfl
theorem dksJ8_newCapacity_2 : cJ8_newCapacity.data.toList.drop 47 = dktJ8_newCapacity_2 := dk_seg dksJ8_newCapacity_1 24 rfl rfl
theorem dJ8_newCapacity_0 : decode cJ8_newCapacity 0 = .ok (.aload_n 0, 1) := dk_42 (dk_at dksJ8_newCapacity_0 0 rfl rfl)
theorem dJ8_newCapacity_1 : decode cJ8_newCapacity 1 = .ok (.getfield 3, 3) := dk_180 0 3 (dk_at dksJ8_newCapacity_0 1 rfl rfl)
theorem dJ8_newCapacity_4 : decode cJ8_newCapacity 4 = .ok (.arraylength, 1) := dk_190 (dk_at dksJ8_newCapacity_0 4 rfl rfl)
theorem dJ8_newCapacity_5 : decode cJ8_newCapacity 5 = .ok (.istore_n 3, 1) := dk_62 (dk_at dksJ8_newCapacity_0 5 rfl rfl)
theorem dJ8_newCapacity_6 : decode cJ8_newCapacity 6 = .ok (.iload_n 3, 1) := dk_29 (dk_at dksJ8_newCapacity_0 6 rfl rfl)
theorem dJ8_newCapacity_7 : decode cJ8_newCapacity 7 = .ok (.iload_n 1, 1) := dk_27 (dk_at dksJ8_newCapacity_0 7 rfl rfl)
theorem dJ8_newCapacity_8 : decode cJ8_newCapacity 8 = .ok (.iadd, 1) := dk_96 (dk_at dksJ8_newCapacity_0 8 rfl rfl)
theorem dJ8_newCapacity_9 : decode cJ8_newCapacity 9 = .ok (.dup, 1) := dk_89 (dk_at dksJ8_newCapacity_0 9 rfl rfl)
theorem dJ8_newCapacity_10 : decode cJ8_newCapacity 10 = .ok (.istore 4, 2) := dk_54 4 (dk_at dksJ8_newCapacity_0 10 rfl rfl)
theorem dJ8_newCapacity_12 : decode cJ8_newCapacity 12 = .ok (.ldc 9, 2) := dk_18 9 (dk_at dksJ8_newCapacity_0 12 rfl rfl)
theorem dJ8_newCapacity_14 : decode cJ8_newCapacity 14 = .ok (.isub, 1) := dk_100 (dk_at dksJ8_newCapacity_0 14 rfl rfl)
theorem dJ8_newCapacity_15 : decode cJ8_newCapacity 15 = .ok (.ifCond .le 21, 3) := dk_158 0 21 (dk_at dksJ8_newCapacity_0 15 rfl rfl)
theorem dJ8_newCapacity_18 : decode cJ8_newCapacity 18 = .ok (.iload 4, 2) := dk_21 4 (dk_at dksJ8_newCapacity_0 18 rfl rfl)
theorem dJ8_newCapacity_20 : decode cJ8_newCapacity 20 = .ok (.ifCond .ge 13, 3) := dk_156 0 13 (dk_at dksJ8_newCapacity_0 20 rfl rfl)
theorem dJ8_newCapacity_23 : decode cJ8_newCapacity 23 = .ok (.new 33, 3) := dk_187 0 33 (dk_at dksJ8_newCapacity_1 0 rfl rfl)
theorem dJ8_newCapacity_26 : decode cJ8_newCapacity 26 = .ok (.dup, 1) := dk_89 (dk_at dksJ8_newCapacity_1 3 rfl rfl)
theorem dJ8_newCapacity_27 : decode cJ8_newCapacity 27 = .ok (.ldc 35, 2) := dk_18 35 (dk_at dksJ8_newCapacity_1 4 rfl rfl)
theorem dJ8_newCapacity_29 : decode cJ8_newCapacity 29 = .ok (.invokespecial 37, 3) := dk_183 0 37 (dk_at dksJ8_newCapacity_1 6 rfl rfl)
theorem dJ8_newCapacity_32 : decode cJ8_newCapacity 32 = .ok (.athrow, 1) := dk_191 (dk_at dksJ8_newCapacity_1 9 rfl rfl)
theorem dJ8_newCapacity_33 : decode cJ8_newCapacity 33 = .ok (.ldc 41, 2) := dk_18 41 (dk_at dksJ8_newCapacity_1 10 rfl rfl)
theorem dJ8_newCapacity_35 : decode cJ8_newCapacity 35 = .ok (.ireturn, 1) := dk_172 (dk_at dksJ8_newCapacity_1 12 rfl rfl)
theorem dJ8_newCapacity_36 : decode cJ8_newCapacity 36 = .ok (.iload_n 1, 1) := dk_27 (dk_at dksJ8_newCapacity_1 13 rfl rfl)
theorem dJ8_newCapacity_37 : decode cJ8_newCapacity 37 = .ok (.iload_n 2, 1) := dk_28 (dk_at dksJ8_newCapacity_1 14 rfl rfl)
theorem dJ8_newCapacity_38 : decode cJ8_newCapacity 38 = .ok (.if_icmp .le 6, 3) := dk_164 0 6 (dk_at dksJ8_newCapacity_1 15 rfl rfl)
theorem dJ8_newCapacity_41 : decode cJ8_newCapacity 41 = .ok (.iload 4, 2) := dk_21 4 (dk_at dksJ8_newCapacity_1 18 rfl rfl)
theorem dJ8_newCapacity_43 : decode cJ8_newCapacity 43 = .ok (.ireturn, 1) := dk_172 (dk_at dksJ8_newCapacity_1 20 rfl rfl)
theorem dJ8_newCapacity_44 : decode cJ8_newCapacity 44 = .ok (.iload_n 3, 1) := dk_29 (dk_at dksJ8_newCapacity_1 21 rfl rfl)
theorem dJ8_newCapacity_45 : decode cJ8_newCapacity 45 = .ok (.iload_n 2, 1) := dk_28 (dk_at dksJ8_newCapacity_1 22 rfl rfl)
theorem dJ8_newCapacity_46 : decode cJ8_newCapacity 46 = .ok (.iadd, 1) := dk_96 (dk_at dksJ8_newCapacity_1 23 rfl rfl)
theorem dJ8_newCapacity_47 : decode cJ8_newCapacity 47 = .ok (.ldc 9, 2) := dk_18 9 (dk_at dksJ8_newCapacity_2 0 rfl rfl)
theorem dJ8_newCapacity_49 : decode cJ8_newCapacity 49 = .ok (.isub, 1) := dk_100 (dk_at dksJ8_newCapacity_2 2 rfl rfl)
theorem dJ8_newCapacity_50 : decode cJ8_newCapacity 50 = .ok (.ifCond .ge 9, 3) := dk_156 0 9 (dk_at dksJ8_newCapacity_2 3 rfl rfl)
theorem dJ8_newCapacity_53 : decode cJ8_newCapacity 53 = .ok (.iload_n 3, 1) := dk_29 (dk_at dksJ8_newCapacity_2 6 rfl rfl)
theorem dJ8_newCapacity_54 : decode cJ8_newCapacity 54 = .ok (.iload_n 2, 1) := dk_28 (dk_at dksJ8_newCapacity_2 7 rfl rfl)
theorem dJ8_newCapacity_55 : decode cJ8_newCapacity 55 = .ok (.iadd, 1) := dk_96 (dk_at dksJ8_newCapacity_2 8 rfl rfl)
theorem dJ8_newCapacity_56 : decode cJ8_newCapacity 56 = .ok (.goto 5, 3) := dk_167 0 5 (dk_at dksJ8_newCapacity_2 9 rfl rfl)
theorem dJ8_newCapacity_59 : decode cJ8_newCapacity 59 = .ok (.ldc 9, 2) := dk_18 9 (dk_at dksJ8_newCapacity_2 12 rfl rfl)
theorem dJ8_newCapacity_61 : decode cJ8_newCapacity 61 = .ok (.ireturn, 1) := dk_172 (dk_at dksJ8_newCapacity_2 14 rfl rfl)
abbrev cJ8_isEmpty : ByteArray := prog_43_method_38_code
def yJ8_isEmpty : MethodName := ⟨RJ8, "isEmpty", "()Z"⟩
def dkwJ8_isEmpty_0 : List UInt8 := [42, 180, 0, 24, 42, 180, 0, 20, 160, 0, 7, 4, 167, 0, 4, 3, 172]
abbrev dktJ8_isEmpty_0 : List UInt8 := dkwJ8_isEmpty_0 ++ []
theorem dksJ8_isEmpty_0 : cJ8_isEmpty.data.toList.drop 0 = dktJ8_isEmpty_0 := by decide +kernel
theorem dJ8_isEmpty_0 : decode cJ8_isEmpty 0 = .ok (.aload_n 0, 1) := dk_42 (dk_at dksJ8_isEmpty_0 0 rfl rfl)
theorem dJ8_isEmpty_1 : decode cJ8_isEmpty 1 = .ok (.getfield 24, 3) := dk_180 0 24 (dk_at dksJ8_isEmpty_0 1 rfl rfl)
theorem dJ8_isEmpty_4 : decode cJ8_isEmpty 4 = .ok (.aload_n 0, 1) := dk_42 (dk_at dksJ8_isEmpty_0 4 rfl rfl)
theorem dJ8_isEmpty_5 : decode cJ8_isEmpty 5 = .ok (.getfield 20, 3) := dk_180 0 20 (dk_at dksJ8_isEmpty_0 5 rfl rfl)
theorem dJ8_isEmpty_8 : decode cJ8_isEmpty 8 = .ok (.if_icmp .ne 7, 3) := dk_160 0 7 (dk_at dksJ8_isEmpty_0 8 rfl rfl)
theorem dJ8_isEmpty_11 : decode cJ8_isEmpty 11 = .ok (.iconst 1, 1) := dk_4 (dk_at dksJ8_isEmpty_0 11 rfl rfl)
theorem dJ8_isEmpty_12 : decode cJ8_isEmpty 12 = .ok (.goto 4, 3) := dk_167 0 4 (dk_at dksJ8_isEmpty_0 12 rfl rfl)
theorem dJ8_isEmpty_15 : decode cJ8_isEmpty 15 = .ok (.iconst 0, 1) := dk_3 (dk_at dksJ8_isEmpty_0 15 rfl rfl)
theorem dJ8_isEmpty_16 : decode cJ8_isEmpty 16 = .ok (.ireturn, 1) := dk_172 (dk_at dksJ8_isEmpty_0 16 rfl rfl)
abbrev cJ8_removeLast : ByteArray := prog_43_method_19_code
def yJ8_removeLast : MethodName := ⟨RJ8, "removeLast", "()Ljava/lang/Object;"⟩
def dkwJ8_removeLast_0 : List UInt8 := [42, 182, 0, 100, 76, 43, 199, 0, 11, 187, 0, 97, 89, 183, 0, 99, 191, 43, 176]
abbrev dktJ8_removeLast_0 : List UInt8 := dkwJ8_removeLast_0 ++ []
theorem dksJ8_removeLast_0 : cJ8_removeLast.data.toList.drop 0 = dktJ8_removeLast_0 := by decide +kernel
theorem dJ8_removeLast_0 : decode cJ8_removeLast 0 = .ok (.aload_n 0, 1) := dk_42 (dk_at dksJ8_removeLast_0 0 rfl rfl)
theorem dJ8_removeLast_1 : decode cJ8_removeLast 1 = .ok (.invokevirtual 100, 3) := dk_182 0 100 (dk_at dksJ8_removeLast_0 1 rfl rfl)
theorem dJ8_removeLast_4 : decode cJ8_removeLast 4 = .ok (.astore_n 1, 1) := dk_76 (dk_at dksJ8_removeLast_0 4 rfl rfl)
theorem dJ8_removeLast_5 : decode cJ8_removeLast 5 = .ok (.aload_n 1, 1) := dk_43 (dk_at dksJ8_removeLast_0 5 rfl rfl)
theorem dJ8_removeLast_6 : decode cJ8_removeLast 6 = .ok (.ifnonnull 11, 3) := dk_199 0 11 (dk_at dksJ8_removeLast_0 6 rfl rfl)
theorem dJ8_removeLast_9 : decode cJ8_removeLast 9 = .ok (.new 97, 3) := dk_187 0 97 (dk_at dksJ8_removeLast_0 9 rfl rfl)
theorem dJ8_removeLast_12 : decode cJ8_removeLast 12 = .ok (.dup, 1) := dk_89 (dk_at dksJ8_removeLast_0 12 rfl rfl)
theorem dJ8_removeLast_13 : decode cJ8_removeLast 13 = .ok (.invokespecial 99, 3) := dk_183 0 99 (dk_at dksJ8_removeLast_0 13 rfl rfl)
theorem dJ8_removeLast_16 : decode cJ8_removeLast 16 = .ok (.athrow, 1) := dk_191 (dk_at dksJ8_removeLast_0 16 rfl rfl)
theorem dJ8_removeLast_17 : decode cJ8_removeLast 17 = .ok (.aload_n 1, 1) := dk_43 (dk_at dksJ8_removeLast_0 17 rfl rfl)
theorem dJ8_removeLast_18 : decode cJ8_removeLast 18 = .ok (.areturn, 1) := dk_176 (dk_at dksJ8_removeLast_0 18 rfl rfl)
abbrev cJ8_pollLast : ByteArray := prog_43_method_21_code
def yJ8_pollLast : MethodName := ⟨RJ8, "pollLast", "()Ljava/lang/Object;"⟩
def dkwJ8_pollLast_1 : List UInt8 := [198, 0, 12, 43, 42, 28, 90, 181, 0, 20, 1, 83, 45, 176]
abbrev dktJ8_pollLast_1 : List UInt8 := dkwJ8_pollLast_1 ++ []
def dkwJ8_pollLast_0 : List UInt8 := [42, 180, 0, 3, 89, 76, 42, 180, 0, 20, 43, 190, 184, 0, 68, 89, 61, 184, 0, 103, 78, 45]
abbrev dktJ8_pollLast_0 : List UInt8 := dkwJ8_pollLast_0 ++ dktJ8_pollLast_1
theorem dksJ8_pollLast_0 : cJ8_pollLast.data.toList.drop 0 = dktJ8_pollLast_0 := by decide +kernel
theorem dksJ8_pollLast_1 : cJ8_pollLast.data.toList.drop 22 = dktJ8_pollLast_1 := dk_seg dksJ8_pollLast_0 22 rfl rfl
theorem dJ8_pollLast_0 : decode cJ8_pollLast 0 = .ok (.aload_n 0, 1) := dk_42 (dk_at dksJ8_pollLast_0 0 rfl rfl)
theorem dJ8_pollLast_1 : decode cJ8_pollLast 1 = .ok (.getfield 3, 3) := dk_180 0 3 (dk_at dksJ8_pollLast_0 1 rfl rfl)
theorem dJ8_pollLast_4 : decode cJ8_pollLast 4 = .ok (.dup, 1) := dk_89 (dk_at dksJ8_pollLast_0 4 rfl rfl)
theorem dJ8_pollLast_5 : decode cJ8_pollLast 5 = .ok (.astore_n 1, 1) := dk_76 (dk_at dksJ8_pollLast_0 5 rfl rfl)
theorem dJ8_pollLast_6 : decode cJ8_pollLast 6 = .ok (.aload_n 0, 1) := dk_42 (dk_at dksJ8_pollLast_0 6 rfl rfl)
theorem dJ8_pollLast_7 : decode cJ8_pollLast 7 = .ok (.getfield 20, 3) := dk_180 0 20 (dk_at dksJ8_pollLast_0 7 rfl rfl)
theorem dJ8_pollLast_10 : decode cJ8_pollLast 10 = .ok (.aload_n 1, 1) := dk_43 (dk_at dksJ8_pollLast_0 10 rfl rfl)
theorem dJ8_pollLast_11 : decode cJ8_pollLast 11 = .ok (.arraylength, 1) := dk_190 (dk_at dksJ8_pollLast_0 11 rfl rfl)
theorem dJ8_pollLast_12 : decode cJ8_pollLast 12 = .ok (.invokestatic 68, 3) := dk_184 0 68 (dk_at dksJ8_pollLast_0 12 rfl rfl)
theorem dJ8_pollLast_15 : decode cJ8_pollLast 15 = .ok (.dup, 1) := dk_89 (dk_at dksJ8_pollLast_0 15 rfl rfl)
theorem dJ8_pollLast_16 : decode cJ8_pollLast 16 = .ok (.istore_n 2, 1) := dk_61 (dk_at dksJ8_pollLast_0 16 rfl rfl)
theorem dJ8_pollLast_17 : decode cJ8_pollLast 17 = .ok (.invokestatic 103, 3) := dk_184 0 103 (dk_at dksJ8_pollLast_0 17 rfl rfl)
theorem dJ8_pollLast_20 : decode cJ8_pollLast 20 = .ok (.astore_n 3, 1) := dk_78 (dk_at dksJ8_pollLast_0 20 rfl rfl)
theorem dJ8_pollLast_21 : decode cJ8_pollLast 21 = .ok (.aload_n 3, 1) := dk_45 (dk_at dksJ8_pollLast_0 21 rfl rfl)
theorem dJ8_pollLast_22 : decode cJ8_pollLast 22 = .ok (.ifnull 12, 3) := dk_198 0 12 (dk_at dksJ8_pollLast_1 0 rfl rfl)
theorem dJ8_pollLast_25 : decode cJ8_pollLast 25 = .ok (.aload_n 1, 1) := dk_43 (dk_at dksJ8_pollLast_1 3 rfl rfl)
theorem dJ8_pollLast_26 : decode cJ8_pollLast 26 = .ok (.aload_n 0, 1) := dk_42 (dk_at dksJ8_pollLast_1 4 rfl rfl)
theorem dJ8_pollLast_27 : decode cJ8_pollLast 27 = .ok (.iload_n 2, 1) := dk_28 (dk_at dksJ8_pollLast_1 5 rfl rfl)
theorem dJ8_pollLast_28 : decode cJ8_pollLast 28 = .ok (.dup_x1, 1) := dk_90 (dk_at dksJ8_pollLast_1 6 rfl rfl)
theorem dJ8_pollLast_29 : decode cJ8_pollLast 29 = .ok (.putfield 20, 3) := dk_181 0 20 (dk_at dksJ8_pollLast_1 7 rfl rfl)
theorem dJ8_pollLast_32 : decode cJ8_pollLast 32 = .ok (.aconst_null, 1) := dk_1 (dk_at dksJ8_pollLast_1 10 rfl rfl)
theorem dJ8_pollLast_33 : decode cJ8_pollLast 33 = .ok (.aastore, 1) := dk_83 (dk_at dksJ8_pollLast_1 11 rfl rfl)
theorem dJ8_pollLast_34 : decode cJ8_pollLast 34 = .ok (.aload_n 3, 1) := dk_45 (dk_at dksJ8_pollLast_1 12 rfl rfl)
theorem dJ8_pollLast_35 : decode cJ8_pollLast 35 = .ok (.areturn, 1) := dk_176 (dk_at dksJ8_pollLast_1 13 rfl rfl)
abbrev cJ8_dec : ByteArray := prog_43_method_7_code
def yJ8_dec : MethodName := ⟨RJ8, "dec", "(II)I"⟩
def dkwJ8_dec_0 : List UInt8 := [132, 0, 255, 26, 156, 0, 7, 27, 4, 100, 59, 26, 172]
abbrev dktJ8_dec_0 : List UInt8 := dkwJ8_dec_0 ++ []
theorem dksJ8_dec_0 : cJ8_dec.data.toList.drop 0 = dktJ8_dec_0 := by decide +kernel
theorem dJ8_dec_0 : decode cJ8_dec 0 = .ok (.iinc 0 (-1), 3) := dk_132 0 255 (dk_at dksJ8_dec_0 0 rfl rfl)
theorem dJ8_dec_3 : decode cJ8_dec 3 = .ok (.iload_n 0, 1) := dk_26 (dk_at dksJ8_dec_0 3 rfl rfl)
theorem dJ8_dec_4 : decode cJ8_dec 4 = .ok (.ifCond .ge 7, 3) := dk_156 0 7 (dk_at dksJ8_dec_0 4 rfl rfl)
theorem dJ8_dec_7 : decode cJ8_dec 7 = .ok (.iload_n 1, 1) := dk_27 (dk_at dksJ8_dec_0 7 rfl rfl)
theorem dJ8_dec_8 : decode cJ8_dec 8 = .ok (.iconst 1, 1) := dk_4 (dk_at dksJ8_dec_0 8 rfl rfl)
theorem dJ8_dec_9 : decode cJ8_dec 9 = .ok (.isub, 1) := dk_100 (dk_at dksJ8_dec_0 9 rfl rfl)
theorem dJ8_dec_10 : decode cJ8_dec 10 = .ok (.istore_n 0, 1) := dk_59 (dk_at dksJ8_dec_0 10 rfl rfl)
theorem dJ8_dec_11 : decode cJ8_dec 11 = .ok (.iload_n 0, 1) := dk_26 (dk_at dksJ8_dec_0 11 rfl rfl)
theorem dJ8_dec_12 : decode cJ8_dec 12 = .ok (.ireturn, 1) := dk_172 (dk_at dksJ8_dec_0 12 rfl rfl)
theorem q84 : (Jvm.Cond.initialized "java/util/ArrayDeque") ∈ lw_all := lw_g (lw_at lw_m1 15 rfl) rfl
theorem q336 : (Jvm.Cond.instantiable "java/util/ArrayDeque" (3 : Nat)) ∈ lw_all := lw_g (lw_at lw_m2 27 rfl) rfl
theorem q338 : (Jvm.Cond.instanceMethod ({ cls := "java/util/ArrayDeque", name := "<init>", desc := "()V" } : Jvm.MethodName)) ∈ lw_all := lw_g (lw_at lw_m2 29 rfl) rfl
theorem q339 : (Jvm.Cond.code ({ cls := "java/util/ArrayDeque", name := "<init>", desc := "()V" } : Jvm.MethodName) prog_43_method_3_code (1 : Nat) (Option.none : Option Jvm.ClassFile.FieldType)) ∈ lw_all := lw_g (lw_at lw_m2 30 rfl) rfl
theorem q340 : (Jvm.Cond.methodLink "java/util/ArrayDeque" (42 : Nat) ({ cls := "java/util/AbstractCollection", name := "<init>", desc := "()V" } : Jvm.MethodName)) ∈ lw_all := lw_g (lw_at lw_m2 31 rfl) rfl
theorem q341 : (Jvm.Cond.classLink "java/util/ArrayDeque" (47 : Nat) "java/lang/Object") ∈ lw_all := lw_g (lw_at lw_m2 32 rfl) rfl
theorem q343 : (Jvm.Cond.fieldLink "java/util/ArrayDeque" (3 : Nat) "java/util/ArrayDeque" "elements" "[Ljava/lang/Object;") ∈ lw_all := lw_g (lw_at lw_m2 34 rfl) rfl
theorem q344 : (Jvm.Cond.fieldLink "java/util/ArrayDeque" (24 : Nat) "java/util/ArrayDeque" "head" "I") ∈ lw_all := lw_g (lw_at lw_m2 35 rfl) rfl
theorem q345 : (Jvm.Cond.fieldLink "java/util/ArrayDeque" (20 : Nat) "java/util/ArrayDeque" "tail" "I") ∈ lw_all := lw_g (lw_at lw_m2 36 rfl) rfl
theorem q346 : (Jvm.Cond.lays "java/util/ArrayDeque" "java/util/ArrayDeque" "elements" "[Ljava/lang/Object;") ∈ lw_all := lw_g (lw_at lw_m2 37 rfl) rfl
theorem q347 : (Jvm.Cond.soleField "java/util/ArrayDeque" "elements") ∈ lw_all := lw_g (lw_at lw_m2 38 rfl) rfl
theorem q348 : (Jvm.Cond.lays "java/util/ArrayDeque" "java/util/ArrayDeque" "head" "I") ∈ lw_all := lw_g (lw_at lw_m2 39 rfl) rfl
theorem q349 : (Jvm.Cond.soleField "java/util/ArrayDeque" "head") ∈ lw_all := lw_g (lw_at lw_m2 40 rfl) rfl
theorem q350 : (Jvm.Cond.lays "java/util/ArrayDeque" "java/util/ArrayDeque" "tail" "I") ∈ lw_all := lw_g (lw_at lw_m2 41 rfl) rfl
theorem q351 : (Jvm.Cond.soleField "java/util/ArrayDeque" "tail") ∈ lw_all := lw_g (lw_at lw_m2 42 rfl) rfl
theorem q352 : (Jvm.Cond.superclass "java/util/ArrayDeque" "java/util/AbstractCollection") ∈ lw_all := lw_g (lw_at lw_m2 43 rfl) rfl
theorem q1021 : (Jvm.Cond.instanceMethod ({ cls := "java/util/ArrayDeque", name := "size", desc := "()I" } : Jvm.MethodName)) ∈ lw_all := lw_g (lw_at lw_m4 232 rfl) rfl
theorem q1022 : (Jvm.Cond.selects "java/util/ArrayDeque" ({ cls := "java/util/ArrayDeque", name := "size", desc := "()I" } : Jvm.MethodName) ({ cls := "java/util/ArrayDeque", name := "size", desc := "()I" } : Jvm.MethodName)) ∈ lw_all := lw_g (lw_at lw_m4 233 rfl) rfl
theorem q1023 : (Jvm.Cond.code ({ cls := "java/util/ArrayDeque", name := "size", desc := "()I" } : Jvm.MethodName) prog_43_method_37_code (1 : Nat) (Option.some Jvm.ClassFile.FieldType.int)) ∈ lw_all := lw_g (lw_at lw_m4 234 rfl) rfl
theorem q1024 : (Jvm.Cond.methodLink "java/util/ArrayDeque" (127 : Nat) ({ cls := "java/util/ArrayDeque", name := "sub", desc := "(III)I" } : Jvm.MethodName)) ∈ lw_all := lw_g (lw_at lw_m4 235 rfl) rfl
theorem q1025 : (Jvm.Cond.static ({ cls := "java/util/ArrayDeque", name := "sub", desc := "(III)I" } : Jvm.MethodName)) ∈ lw_all := lw_g (lw_at lw_m4 236 rfl) rfl
theorem q1026 : (Jvm.Cond.code ({ cls := "java/util/ArrayDeque", name := "sub", desc := "(III)I" } : Jvm.MethodName) prog_43_method_9_code (3 : Nat) (Option.some Jvm.ClassFile.FieldType.int)) ∈ lw_all := lw_g (lw_at lw_m4 237 rfl) rfl
theorem q1186 : (Jvm.Cond.selects "java/util/ArrayDeque" ({ cls := "java/lang/Object", name := "getClass", desc := "()Ljava/lang/Class;" } : Jvm.MethodName) ({ cls := "java/lang/Object", name := "getClass", desc := "()Ljava/lang/Class;" } : Jvm.MethodName)) ∈ lw_all := lw_g (lw_at lw_m5 157 rfl) rfl
theorem q1253 : (Jvm.Cond.instanceMethod ({ cls := "java/util/ArrayDeque", name := "removeFirst", desc := "()Ljava/lang/Object;" } : Jvm.MethodName)) ∈ lw_all := lw_g (lw_at lw_m5 224 rfl) rfl
theorem q1254 : (Jvm.Cond.selects "java/util/ArrayDeque" ({ cls := "java/util/ArrayDeque", name := "removeFirst", desc := "()Ljava/lang/Object;" } : Jvm.MethodName) ({ cls := "java/util/ArrayDeque", name := "removeFirst", desc := "()Ljava/lang/Object;" } : Jvm.MethodName)) ∈ lw_all := lw_g (lw_at lw_m5 225 rfl) rfl
theorem q1255 : (Jvm.Cond.code ({ cls := "java/util/ArrayDeque", name := "removeFirst", desc := "()Ljava/lang/Object;" } : Jvm.MethodName) prog_43_method_18_code (2 : Nat) (Option.some (Jvm.ClassFile.FieldType.object "java/lang/Object"))) ∈ lw_all := lw_g (lw_at lw_m5 226 rfl) rfl
theorem q1256 : (Jvm.Cond.methodLink "java/util/ArrayDeque" (93 : Nat) ({ cls := "java/util/ArrayDeque", name := "pollFirst", desc := "()Ljava/lang/Object;" } : Jvm.MethodName)) ∈ lw_all := lw_g (lw_at lw_m5 227 rfl) rfl
theorem q1257 : (Jvm.Cond.instanceMethod ({ cls := "java/util/ArrayDeque", name := "pollFirst", desc := "()Ljava/lang/Object;" } : Jvm.MethodName)) ∈ lw_all := lw_g (lw_at lw_m5 228 rfl) rfl
theorem q1258 : (Jvm.Cond.selects "java/util/ArrayDeque" ({ cls := "java/util/ArrayDeque", name := "pollFirst", desc := "()Ljava/lang/Object;" } : Jvm.MethodName) ({ cls := "java/util/ArrayDeque", name := "pollFirst", desc := "()Ljava/lang/Object;" } : Jvm.MethodName)) ∈ lw_all := lw_g (lw_at lw_m5 229 rfl) rfl
theorem q1259 : (Jvm.Cond.code ({ cls := "java/util/ArrayDeque", name := "pollFirst", desc := "()Ljava/lang/Object;" } : Jvm.MethodName) prog_43_method_20_code (4 : Nat) (Option.some (Jvm.ClassFile.FieldType.object "java/lang/Object"))) ∈ lw_all := lw_g (lw_at lw_m5 230 rfl) rfl
theorem q1260 : (Jvm.Cond.methodLink "java/util/ArrayDeque" (103 : Nat) ({ cls := "java/util/ArrayDeque", name := "elementAt", desc := "([Ljava/lang/Object;I)Ljava/lang/Object;" } : Jvm.MethodName)) ∈ lw_all := lw_g (lw_at lw_m5 231 rfl) rfl
theorem q1261 : (Jvm.Cond.static ({ cls := "java/util/ArrayDeque", name := "elementAt", desc := "([Ljava/lang/Object;I)Ljava/lang/Object;" } : Jvm.MethodName)) ∈ lw_all := lw_g (lw_at lw_m5 232 rfl) rfl
theorem q1262 : (Jvm.Cond.code ({ cls := "java/util/ArrayDeque", name := "elementAt", desc := "([Ljava/lang/Object;I)Ljava/lang/Object;" } : Jvm.MethodName) prog_43_method_10_code (2 : Nat) (Option.some (Jvm.ClassFile.FieldType.object "java/lang/Object"))) ∈ lw_all := lw_g (lw_at lw_m5 233 rfl) rfl
theorem q1263 : (Jvm.Cond.methodLink "java/util/ArrayDeque" (74 : Nat) ({ cls := "java/util/ArrayDeque", name := "inc", desc := "(II)I" } : Jvm.MethodName)) ∈ lw_all := lw_g (lw_at lw_m5 234 rfl) rfl
theorem q1264 : (Jvm.Cond.static ({ cls := "java/util/ArrayDeque", name := "inc", desc := "(II)I" } : Jvm.MethodName)) ∈ lw_all := lw_g (lw_at lw_m5 235 rfl) rfl
theorem q1265 : (Jvm.Cond.code ({ cls := "java/util/ArrayDeque", name := "inc", desc := "(II)I" } : Jvm.MethodName) prog_43_method_6_code (2 : Nat) (Option.some Jvm.ClassFile.FieldType.int)) ∈ lw_all := lw_g (lw_at lw_m5 236 rfl) rfl
theorem q1267 : (Jvm.Cond.instanceMethod ({ cls := "java/util/ArrayDeque", name := "addLast", desc := "(Ljava/lang/Object;)V" } : Jvm.MethodName)) ∈ lw_all := lw_g (lw_at lw_m5 238 rfl) rfl
theorem q1268 : (Jvm.Cond.selects "java/util/ArrayDeque" ({ cls := "java/util/ArrayDeque", name := "addLast", desc := "(Ljava/lang/Object;)V" } : Jvm.MethodName) ({ cls := "java/util/ArrayDeque", name := "addLast", desc := "(Ljava/lang/Object;)V" } : Jvm.MethodName)) ∈ lw_all := lw_g (lw_at lw_m5 239 rfl) rfl
theorem q1269 : (Jvm.Cond.code ({ cls := "java/util/ArrayDeque", name := "addLast", desc := "(Ljava/lang/Object;)V" } : Jvm.MethodName) prog_43_method_13_code (3 : Nat) (Option.none : Option Jvm.ClassFile.FieldType)) ∈ lw_all := lw_g (lw_at lw_m6 0 rfl) rfl
theorem q1270 : (Jvm.Cond.methodLink "java/util/ArrayDeque" (71 : Nat) ({ cls := "java/util/ArrayDeque", name := "grow", desc := "(I)V" } : Jvm.MethodName)) ∈ lw_all := lw_g (lw_at lw_m6 1 rfl) rfl
theorem q1271 : (Jvm.Cond.privateMethod ({ cls := "java/util/ArrayDeque", name := "grow", desc := "(I)V" } : Jvm.MethodName)) ∈ lw_tbl := lw_at lw_m6 2 rfl
theorem q1272 : (Jvm.Cond.instanceMethod ({ cls := "java/util/ArrayDeque", name := "grow", desc := "(I)V" } : Jvm.MethodName)) ∈ lw_all := lw_g (lw_at lw_m6 3 rfl) rfl
theorem q1273 : (Jvm.Cond.code ({ cls := "java/util/ArrayDeque", name := "grow", desc := "(I)V" } : Jvm.MethodName) prog_43_method_1_code (9 : Nat) (Option.none : Option Jvm.ClassFile.FieldType)) ∈ lw_all := lw_g (lw_at lw_m6 4 rfl) rfl
theorem q1274 : (Jvm.Cond.constant "java/util/ArrayDeque" (9 : Nat) (2147483639 : Int32)) ∈ lw_all := lw_g (lw_at lw_m6 5 rfl) rfl
theorem q1275 : (Jvm.Cond.methodLink "java/util/ArrayDeque" (10 : Nat) ({ cls := "java/util/ArrayDeque", name := "newCapacity", desc := "(II)I" } : Jvm.MethodName)) ∈ lw_all := lw_g (lw_at lw_m6 6 rfl) rfl
theorem q1276 : (Jvm.Cond.privateMethod ({ cls := "java/util/ArrayDeque", name := "newCapacity", desc := "(II)I" } : Jvm.MethodName)) ∈ lw_tbl := lw_at lw_m6 7 rfl
theorem q1277 : (Jvm.Cond.instanceMethod ({ cls := "java/util/ArrayDeque", name := "newCapacity", desc := "(II)I" } : Jvm.MethodName)) ∈ lw_all := lw_g (lw_at lw_m6 8 rfl) rfl
theorem q1278 : (Jvm.Cond.code ({ cls := "java/util/ArrayDeque", name := "newCapacity", desc := "(II)I" } : Jvm.MethodName) prog_43_method_2_code (5 : Nat) (Option.some Jvm.ClassFile.FieldType.int)) ∈ lw_all := lw_g (lw_at lw_m6 9 rfl) rfl
theorem q1279 : (Jvm.Cond.classLink "java/util/ArrayDeque" (33 : Nat) "java/lang/IllegalStateException") ∈ lw_all := lw_g (lw_at lw_m6 10 rfl) rfl
theorem q1288 : (Jvm.Cond.stringRef "java/util/ArrayDeque" (35 : Nat) "Sorry, deque too big") ∈ lw_tbl := lw_at lw_m6 19 rfl
theorem q1289 : (Jvm.Cond.methodLink "java/util/ArrayDeque" (37 : Nat) ({ cls := "java/lang/IllegalStateException", name := "<init>", desc := "(Ljava/lang/String;)V" } : Jvm.MethodName)) ∈ lw_all := lw_g (lw_at lw_m6 20 rfl) rfl
theorem q1295 : (Jvm.Cond.constant "java/util/ArrayDeque" (41 : Nat) (2147483647 : Int32)) ∈ lw_all := lw_g (lw_at lw_m6 26 rfl) rfl
theorem q1296 : (Jvm.Cond.methodLink "java/util/ArrayDeque" (14 : Nat) ({ cls := "java/util/Arrays", name := "copyOf", desc := "([Ljava/lang/Object;I)[Ljava/lang/Object;" } : Jvm.MethodName)) ∈ lw_all := lw_g (lw_at lw_m6 27 rfl) rfl
theorem q1297 : (Jvm.Cond.methodLink "java/util/ArrayDeque" (27 : Nat) ({ cls := "java/lang/System", name := "arraycopy", desc := "(Ljava/lang/Object;ILjava/lang/Object;II)V" } : Jvm.MethodName)) ∈ lw_all := lw_g (lw_at lw_m6 28 rfl) rfl
theorem q1693 : (Jvm.Cond.instanceMethod ({ cls := "java/util/ArrayDeque", name := "isEmpty", desc := "()Z" } : Jvm.MethodName)) ∈ lw_all := lw_g (lw_at lw_m7 184 rfl) rfl
theorem q1694 : (Jvm.Cond.selects "java/util/ArrayDeque" ({ cls := "java/util/ArrayDeque", name := "isEmpty", desc := "()Z" } : Jvm.MethodName) ({ cls := "java/util/ArrayDeque", name := "isEmpty", desc := "()Z" } : Jvm.MethodName)) ∈ lw_all := lw_g (lw_at lw_m7 185 rfl) rfl
theorem q1695 : (Jvm.Cond.code ({ cls := "java/util/ArrayDeque", name := "isEmpty", desc := "()Z" } : Jvm.MethodName) prog_43_method_38_code (1 : Nat) (Option.some Jvm.ClassFile.FieldType.boolean)) ∈ lw_all := lw_g (lw_at lw_m7 186 rfl) rfl
theorem q1697 : (Jvm.Cond.instanceMethod ({ cls := "java/util/ArrayDeque", name := "removeLast", desc := "()Ljava/lang/Object;" } : Jvm.MethodName)) ∈ lw_all := lw_g (lw_at lw_m7 188 rfl) rfl
theorem q1698 : (Jvm.Cond.selects "java/util/ArrayDeque" ({ cls := "java/util/ArrayDeque", name := "removeLast", desc := "()Ljava/lang/Object;" } : Jvm.MethodName) ({ cls := "java/util/ArrayDeque", name := "removeLast", desc := "()Ljava/lang/Object;" } : Jvm.MethodName)) ∈ lw_all := lw_g (lw_at lw_m7 189 rfl) rfl
theorem q1699 : (Jvm.Cond.code ({ cls := "java/util/ArrayDeque", name := "removeLast", desc := "()Ljava/lang/Object;" } : Jvm.MethodName) prog_43_method_19_code (2 : Nat) (Option.some (Jvm.ClassFile.FieldType.object "java/lang/Object"))) ∈ lw_all := lw_g (lw_at lw_m7 190 rfl) rfl
theorem q1700 : (Jvm.Cond.methodLink "java/util/ArrayDeque" (100 : Nat) ({ cls := "java/util/ArrayDeque", name := "pollLast", desc := "()Ljava/lang/Object;" } : Jvm.MethodName)) ∈ lw_all := lw_g (lw_at lw_m7 191 rfl) rfl
theorem q1701 : (Jvm.Cond.instanceMethod ({ cls := "java/util/ArrayDeque", name := "pollLast", desc := "()Ljava/lang/Object;" } : Jvm.MethodName)) ∈ lw_all := lw_g (lw_at lw_m7 192 rfl) rfl
theorem q1702 : (Jvm.Cond.selects "java/util/ArrayDeque" ({ cls := "java/util/ArrayDeque", name := "pollLast", desc := "()Ljava/lang/Object;" } : Jvm.MethodName) ({ cls := "java/util/ArrayDeque", name := "pollLast", desc := "()Ljava/lang/Object;" } : Jvm.MethodName)) ∈ lw_all := lw_g (lw_at lw_m7 193 rfl) rfl
theorem q1703 : (Jvm.Cond.code ({ cls := "java/util/ArrayDeque", name := "pollLast", desc := "()Ljava/lang/Object;" } : Jvm.MethodName) prog_43_method_21_code (4 : Nat) (Option.some (Jvm.ClassFile.FieldType.object "java/lang/Object"))) ∈ lw_all := lw_g (lw_at lw_m7 194 rfl) rfl
theorem q1704 : (Jvm.Cond.methodLink "java/util/ArrayDeque" (68 : Nat) ({ cls := "java/util/ArrayDeque", name := "dec", desc := "(II)I" } : Jvm.MethodName)) ∈ lw_all := lw_g (lw_at lw_m7 195 rfl) rfl
theorem q1705 : (Jvm.Cond.static ({ cls := "java/util/ArrayDeque", name := "dec", desc := "(II)I" } : Jvm.MethodName)) ∈ lw_all := lw_g (lw_at lw_m7 196 rfl) rfl
theorem q1706 : (Jvm.Cond.code ({ cls := "java/util/ArrayDeque", name := "dec", desc := "(II)I" } : Jvm.MethodName) prog_43_method_7_code (2 : Nat) (Option.some Jvm.ClassFile.FieldType.int)) ∈ lw_all := lw_g (lw_at lw_m7 197 rfl) rfl
theorem q2176 : (Jvm.Cond.castable "java/util/ArrayDeque" "java/lang/Object") ∈ lw_tbl := lw_at lw_m9 187 rfl
theorem in_J8 : ∀ w ∈ wsJ80, w ∈ lw_all := lw_in wsJ80 [346, 348, 350] (by decide +kernel) (by decide +kernel)
/-! java/lang/StringBuilder -/
set_option maxRecDepth 100000
def RJ10 : String := "java/lang/StringBuilder"
def TJ10 : u_T := fun k => match k with
  | 0 => ("java/lang/AbstractStringBuilder", "value", "[B", false)
  | 1 => ("java/lang/AbstractStringBuilder", "coder", "B", false)
  | 2 => ("java/lang/AbstractStringBuilder", "maybeLatin1", "Z", false)
  | _ => ("java/lang/AbstractStringBuilder", "count", "I", false)
def tyJ10 : Nat → FieldType := fun k => match k with
  | 0 => .array .byte
  | 1 => .byte
  | 2 => .boolean
  | _ => .int
abbrev wsJ100 : List Cond := u_ws RJ10 TJ10 4
theorem nmJ10 : ∀ a, a < 4 → ∀ b, b < 4 → a ≠ b → (TJ10 a).2.1 ≠ (TJ10 b).2.1 := by decide +kernel
theorem tyJ10_ok : ∀ k, k < 4 → parseFieldDescriptor (TJ10 k).2.2.1 = some (tyJ10 k) := by decide +kernel
abbrev cJ10_init : ByteArray := prog_33_method_1_code
def yJ10_init : MethodName := ⟨RJ10, "<init>", "()V"⟩
def dkwJ10_init_0 : List UInt8 := [42, 16, 16, 183, 0, 1, 177]
abbrev dktJ10_init_0 : List UInt8 := dkwJ10_init_0 ++ []
theorem dksJ10_init_0 : cJ10_init.data.toList.drop 0 = dktJ10_init_0 := by decide +kernel
theorem dJ10_init_0 : decode cJ10_init 0 = .ok (.aload_n 0, 1) := dk_42 (dk_at dksJ10_init_0 0 rfl rfl)
theorem dJ10_init_1 : decode cJ10_init 1 = .ok (.bipush 16, 2) := dk_16 16 (dk_at dksJ10_init_0 1 rfl rfl)
theorem dJ10_init_3 : decode cJ10_init 3 = .ok (.invokespecial 1, 3) := dk_183 0 1 (dk_at dksJ10_init_0 3 rfl rfl)
theorem dJ10_init_6 : decode cJ10_init 6 = .ok (.return_, 1) := dk_177 (dk_at dksJ10_init_0 6 rfl rfl)
abbrev cJ10_length : ByteArray := prog_33_method_93_code
def yJ10_length : MethodName := ⟨RJ10, "length", "()I"⟩
theorem dJ10_length_0 : decode cJ10_length 0 = .ok (.aload_n 0, 1) := by decide +kernel
theorem dJ10_length_1 : decode cJ10_length 1 = .ok (.invokespecial 343, 3) := by decide +kernel
theorem dJ10_length_4 : decode cJ10_length 4 = .ok (.ireturn, 1) := by decide +kernel
abbrev cJ10_setLength : ByteArray := prog_33_method_89_code
def yJ10_setLength : MethodName := ⟨RJ10, "setLength", "(I)V"⟩
def dkwJ10_setLength_0 : List UInt8 := [42, 27, 183, 1, 77, 177]
abbrev dktJ10_setLength_0 : List UInt8 := dkwJ10_setLength_0 ++ []
theorem dksJ10_setLength_0 : cJ10_setLength.data.toList.drop 0 = dktJ10_setLength_0 := by decide +kernel
theorem dJ10_setLength_0 : decode cJ10_setLength 0 = .ok (.aload_n 0, 1) := dk_42 (dk_at dksJ10_setLength_0 0 rfl rfl)
theorem dJ10_setLength_1 : decode cJ10_setLength 1 = .ok (.iload_n 1, 1) := dk_27 (dk_at dksJ10_setLength_0 1 rfl rfl)
theorem dJ10_setLength_2 : decode cJ10_setLength 2 = .ok (.invokespecial 333, 3) := dk_183 1 77 (dk_at dksJ10_setLength_0 2 rfl rfl)
theorem dJ10_setLength_5 : decode cJ10_setLength 5 = .ok (.return_, 1) := dk_177 (dk_at dksJ10_setLength_0 5 rfl rfl)
abbrev cJ10_append : ByteArray := prog_33_method_7_code
def yJ10_append : MethodName := ⟨RJ10, "append", "(Ljava/lang/String;)Ljava/lang/StringBuilder;"⟩
def dkwJ10_append_0 : List UInt8 := [42, 43, 183, 0, 29, 87, 42, 176]
abbrev dktJ10_append_0 : List UInt8 := dkwJ10_append_0 ++ []
theorem dksJ10_append_0 : cJ10_append.data.toList.drop 0 = dktJ10_append_0 := by decide +kernel
theorem dJ10_append_0 : decode cJ10_append 0 = .ok (.aload_n 0, 1) := dk_42 (dk_at dksJ10_append_0 0 rfl rfl)
theorem dJ10_append_1 : decode cJ10_append 1 = .ok (.aload_n 1, 1) := dk_43 (dk_at dksJ10_append_0 1 rfl rfl)
theorem dJ10_append_2 : decode cJ10_append 2 = .ok (.invokespecial 29, 3) := dk_183 0 29 (dk_at dksJ10_append_0 2 rfl rfl)
theorem dJ10_append_5 : decode cJ10_append 5 = .ok (.pop, 1) := dk_87 (dk_at dksJ10_append_0 5 rfl rfl)
theorem dJ10_append_6 : decode cJ10_append 6 = .ok (.aload_n 0, 1) := dk_42 (dk_at dksJ10_append_0 6 rfl rfl)
theorem dJ10_append_7 : decode cJ10_append 7 = .ok (.areturn, 1) := dk_176 (dk_at dksJ10_append_0 7 rfl rfl)
abbrev cJ10_append_2 : ByteArray := prog_33_method_15_code
def yJ10_append_2 : MethodName := ⟨RJ10, "append", "(I)Ljava/lang/StringBuilder;"⟩
def dkwJ10_append_2_0 : List UInt8 := [42, 27, 183, 0, 53, 87, 42, 176]
abbrev dktJ10_append_2_0 : List UInt8 := dkwJ10_append_2_0 ++ []
theorem dksJ10_append_2_0 : cJ10_append_2.data.toList.drop 0 = dktJ10_append_2_0 := by decide +kernel
theorem dJ10_append_2_0 : decode cJ10_append_2 0 = .ok (.aload_n 0, 1) := dk_42 (dk_at dksJ10_append_2_0 0 rfl rfl)
theorem dJ10_append_2_1 : decode cJ10_append_2 1 = .ok (.iload_n 1, 1) := dk_27 (dk_at dksJ10_append_2_0 1 rfl rfl)
theorem dJ10_append_2_2 : decode cJ10_append_2 2 = .ok (.invokespecial 53, 3) := dk_183 0 53 (dk_at dksJ10_append_2_0 2 rfl rfl)
theorem dJ10_append_2_5 : decode cJ10_append_2 5 = .ok (.pop, 1) := dk_87 (dk_at dksJ10_append_2_0 5 rfl rfl)
theorem dJ10_append_2_6 : decode cJ10_append_2 6 = .ok (.aload_n 0, 1) := dk_42 (dk_at dksJ10_append_2_0 6 rfl rfl)
theorem dJ10_append_2_7 : decode cJ10_append_2 7 = .ok (.areturn, 1) := dk_176 (dk_at dksJ10_append_2_0 7 rfl rfl)
abbrev cJ10_toString : ByteArray := prog_33_method_42_code
def yJ10_toString : MethodName := ⟨RJ10, "toString", "()Ljava/lang/String;"⟩
def dkwJ10_toString_0 : List UInt8 := [187, 0, 18, 89, 42, 183, 0, 137, 176]
abbrev dktJ10_toString_0 : List UInt8 := dkwJ10_toString_0 ++ []
theorem dksJ10_toString_0 : cJ10_toString.data.toList.drop 0 = dktJ10_toString_0 := by decide +kernel
theorem dJ10_toString_0 : decode cJ10_toString 0 = .ok (.new 18, 3) := dk_187 0 18 (dk_at dksJ10_toString_0 0 rfl rfl)
theorem dJ10_toString_3 : decode cJ10_toString 3 = .ok (.dup, 1) := dk_89 (dk_at dksJ10_toString_0 3 rfl rfl)
theorem dJ10_toString_4 : decode cJ10_toString 4 = .ok (.aload_n 0, 1) := dk_42 (dk_at dksJ10_toString_0 4 rfl rfl)
theorem dJ10_toString_5 : decode cJ10_toString 5 = .ok (.invokespecial 137, 3) := dk_183 0 137 (dk_at dksJ10_toString_0 5 rfl rfl)
theorem dJ10_toString_8 : decode cJ10_toString 8 = .ok (.areturn, 1) := dk_176 (dk_at dksJ10_toString_0 8 rfl rfl)
abbrev cJ10_charAt : ByteArray := prog_33_method_88_code
def yJ10_charAt : MethodName := ⟨RJ10, "charAt", "(I)C"⟩
def dkwJ10_charAt_0 : List UInt8 := [42, 27, 183, 1, 73, 172]
abbrev dktJ10_charAt_0 : List UInt8 := dkwJ10_charAt_0 ++ []
theorem dksJ10_charAt_0 : cJ10_charAt.data.toList.drop 0 = dktJ10_charAt_0 := by decide +kernel
theorem dJ10_charAt_0 : decode cJ10_charAt 0 = .ok (.aload_n 0, 1) := dk_42 (dk_at dksJ10_charAt_0 0 rfl rfl)
theorem dJ10_charAt_1 : decode cJ10_charAt 1 = .ok (.iload_n 1, 1) := dk_27 (dk_at dksJ10_charAt_0 1 rfl rfl)
theorem dJ10_charAt_2 : decode cJ10_charAt 2 = .ok (.invokespecial 329, 3) := dk_183 1 73 (dk_at dksJ10_charAt_0 2 rfl rfl)
theorem dJ10_charAt_5 : decode cJ10_charAt 5 = .ok (.ireturn, 1) := dk_172 (dk_at dksJ10_charAt_0 5 rfl rfl)
abbrev cJ10_append_3 : ByteArray := prog_33_method_14_code
def yJ10_append_3 : MethodName := ⟨RJ10, "append", "(C)Ljava/lang/StringBuilder;"⟩
def dkwJ10_append_3_0 : List UInt8 := [42, 27, 183, 0, 50, 87, 42, 176]
abbrev dktJ10_append_3_0 : List UInt8 := dkwJ10_append_3_0 ++ []
theorem dksJ10_append_3_0 : cJ10_append_3.data.toList.drop 0 = dktJ10_append_3_0 := by decide +kernel
theorem dJ10_append_3_0 : decode cJ10_append_3 0 = .ok (.aload_n 0, 1) := dk_42 (dk_at dksJ10_append_3_0 0 rfl rfl)
theorem dJ10_append_3_1 : decode cJ10_append_3 1 = .ok (.iload_n 1, 1) := dk_27 (dk_at dksJ10_append_3_0 1 rfl rfl)
theorem dJ10_append_3_2 : decode cJ10_append_3 2 = .ok (.invokespecial 50, 3) := dk_183 0 50 (dk_at dksJ10_append_3_0 2 rfl rfl)
theorem dJ10_append_3_5 : decode cJ10_append_3 5 = .ok (.pop, 1) := dk_87 (dk_at dksJ10_append_3_0 5 rfl rfl)
theorem dJ10_append_3_6 : decode cJ10_append_3 6 = .ok (.aload_n 0, 1) := dk_42 (dk_at dksJ10_append_3_0 6 rfl rfl)
theorem dJ10_append_3_7 : decode cJ10_append_3 7 = .ok (.areturn, 1) := dk_176 (dk_at dksJ10_append_3_0 7 rfl rfl)
theorem q86 : (Jvm.Cond.initialized "java/lang/StringBuilder") ∈ lw_all := lw_g (lw_at lw_m1 17 rfl) rfl
theorem q354 : (Jvm.Cond.instantiable "java/lang/StringBuilder" (4 : Nat)) ∈ lw_all := lw_g (lw_at lw_m2 45 rfl) rfl
theorem q356 : (Jvm.Cond.instanceMethod ({ cls := "java/lang/StringBuilder", name := "<init>", desc := "()V" } : Jvm.MethodName)) ∈ lw_all := lw_g (lw_at lw_m2 47 rfl) rfl
theorem q357 : (Jvm.Cond.code ({ cls := "java/lang/StringBuilder", name := "<init>", desc := "()V" } : Jvm.MethodName) prog_33_method_1_code (1 : Nat) (Option.none : Option Jvm.ClassFile.FieldType)) ∈ lw_all := lw_g (lw_at lw_m2 48 rfl) rfl
theorem q358 : (Jvm.Cond.methodLink "java/lang/StringBuilder" (1 : Nat) ({ cls := "java/lang/AbstractStringBuilder", name := "<init>", desc := "(I)V" } : Jvm.MethodName)) ∈ lw_all := lw_g (lw_at lw_m2 49 rfl) rfl
theorem q376 : (Jvm.Cond.lays "java/lang/StringBuilder" "java/lang/AbstractStringBuilder" "value" "[B") ∈ lw_all := lw_g (lw_at lw_m2 67 rfl) rfl
theorem q378 : (Jvm.Cond.lays "java/lang/StringBuilder" "java/lang/AbstractStringBuilder" "coder" "B") ∈ lw_all := lw_g (lw_at lw_m2 69 rfl) rfl
theorem q380 : (Jvm.Cond.lays "java/lang/StringBuilder" "java/lang/AbstractStringBuilder" "maybeLatin1" "Z") ∈ lw_all := lw_g (lw_at lw_m2 71 rfl) rfl
theorem q382 : (Jvm.Cond.lays "java/lang/StringBuilder" "java/lang/AbstractStringBuilder" "count" "I") ∈ lw_all := lw_g (lw_at lw_m2 73 rfl) rfl
theorem q384 : (Jvm.Cond.superclass "java/lang/StringBuilder" "java/lang/AbstractStringBuilder") ∈ lw_all := lw_g (lw_at lw_m2 75 rfl) rfl
theorem q441 : (Jvm.Cond.instanceMethod ({ cls := "java/lang/StringBuilder", name := "length", desc := "()I" } : Jvm.MethodName)) ∈ lw_all := lw_g (lw_at lw_m2 132 rfl) rfl
theorem q442 : (Jvm.Cond.selects "java/lang/StringBuilder" ({ cls := "java/lang/StringBuilder", name := "length", desc := "()I" } : Jvm.MethodName) ({ cls := "java/lang/StringBuilder", name := "length", desc := "()I" } : Jvm.MethodName)) ∈ lw_all := lw_g (lw_at lw_m2 133 rfl) rfl
theorem q443 : (Jvm.Cond.code ({ cls := "java/lang/StringBuilder", name := "length", desc := "()I" } : Jvm.MethodName) prog_33_method_93_code (1 : Nat) (Option.some Jvm.ClassFile.FieldType.int)) ∈ lw_all := lw_g (lw_at lw_m2 134 rfl) rfl
theorem q444 : (Jvm.Cond.methodLink "java/lang/StringBuilder" (343 : Nat) ({ cls := "java/lang/AbstractStringBuilder", name := "length", desc := "()I" } : Jvm.MethodName)) ∈ lw_all := lw_g (lw_at lw_m2 135 rfl) rfl
theorem q448 : (Jvm.Cond.instanceMethod ({ cls := "java/lang/StringBuilder", name := "setLength", desc := "(I)V" } : Jvm.MethodName)) ∈ lw_all := lw_g (lw_at lw_m2 139 rfl) rfl
theorem q449 : (Jvm.Cond.selects "java/lang/StringBuilder" ({ cls := "java/lang/StringBuilder", name := "setLength", desc := "(I)V" } : Jvm.MethodName) ({ cls := "java/lang/StringBuilder", name := "setLength", desc := "(I)V" } : Jvm.MethodName)) ∈ lw_all := lw_g (lw_at lw_m2 140 rfl) rfl
theorem q450 : (Jvm.Cond.code ({ cls := "java/lang/StringBuilder", name := "setLength", desc := "(I)V" } : Jvm.MethodName) prog_33_method_89_code (2 : Nat) (Option.none : Option Jvm.ClassFile.FieldType)) ∈ lw_all := lw_g (lw_at lw_m2 141 rfl) rfl
theorem q451 : (Jvm.Cond.methodLink "java/lang/StringBuilder" (333 : Nat) ({ cls := "java/lang/AbstractStringBuilder", name := "setLength", desc := "(I)V" } : Jvm.MethodName)) ∈ lw_all := lw_g (lw_at lw_m2 142 rfl) rfl
theorem q463 : (Jvm.Cond.instanceMethod ({ cls := "java/lang/StringBuilder", name := "append", desc := "(Ljava/lang/String;)Ljava/lang/StringBuilder;" } : Jvm.MethodName)) ∈ lw_all := lw_g (lw_at lw_m2 154 rfl) rfl
theorem q464 : (Jvm.Cond.selects "java/lang/StringBuilder" ({ cls := "java/lang/StringBuilder", name := "append", desc := "(Ljava/lang/String;)Ljava/lang/StringBuilder;" } : Jvm.MethodName) ({ cls := "java/lang/StringBuilder", name := "append", desc := "(Ljava/lang/String;)Ljava/lang/StringBuilder;" } : Jvm.MethodName)) ∈ lw_all := lw_g (lw_at lw_m2 155 rfl) rfl
theorem q465 : (Jvm.Cond.code ({ cls := "java/lang/StringBuilder", name := "append", desc := "(Ljava/lang/String;)Ljava/lang/StringBuilder;" } : Jvm.MethodName) prog_33_method_7_code (2 : Nat) (Option.some (Jvm.ClassFile.FieldType.object "java/lang/StringBuilder"))) ∈ lw_all := lw_g (lw_at lw_m2 156 rfl) rfl
theorem q466 : (Jvm.Cond.methodLink "java/lang/StringBuilder" (29 : Nat) ({ cls := "java/lang/AbstractStringBuilder", name := "append", desc := "(Ljava/lang/String;)Ljava/lang/AbstractStringBuilder;" } : Jvm.MethodName)) ∈ lw_all := lw_g (lw_at lw_m2 157 rfl) rfl
theorem q511 : (Jvm.Cond.selects "java/lang/StringBuilder" ({ cls := "java/lang/AbstractStringBuilder", name := "isLatin1", desc := "()Z" } : Jvm.MethodName) ({ cls := "java/lang/AbstractStringBuilder", name := "isLatin1", desc := "()Z" } : Jvm.MethodName)) ∈ lw_all := lw_g (lw_at lw_m2 202 rfl) rfl
theorem q583 : (Jvm.Cond.instanceMethod ({ cls := "java/lang/StringBuilder", name := "append", desc := "(I)Ljava/lang/StringBuilder;" } : Jvm.MethodName)) ∈ lw_all := lw_g (lw_at lw_m3 34 rfl) rfl
theorem q584 : (Jvm.Cond.selects "java/lang/StringBuilder" ({ cls := "java/lang/StringBuilder", name := "append", desc := "(I)Ljava/lang/StringBuilder;" } : Jvm.MethodName) ({ cls := "java/lang/StringBuilder", name := "append", desc := "(I)Ljava/lang/StringBuilder;" } : Jvm.MethodName)) ∈ lw_all := lw_g (lw_at lw_m3 35 rfl) rfl
theorem q585 : (Jvm.Cond.code ({ cls := "java/lang/StringBuilder", name := "append", desc := "(I)Ljava/lang/StringBuilder;" } : Jvm.MethodName) prog_33_method_15_code (2 : Nat) (Option.some (Jvm.ClassFile.FieldType.object "java/lang/StringBuilder"))) ∈ lw_all := lw_g (lw_at lw_m3 36 rfl) rfl
theorem q586 : (Jvm.Cond.methodLink "java/lang/StringBuilder" (53 : Nat) ({ cls := "java/lang/AbstractStringBuilder", name := "append", desc := "(I)Ljava/lang/AbstractStringBuilder;" } : Jvm.MethodName)) ∈ lw_all := lw_g (lw_at lw_m3 37 rfl) rfl
theorem q608 : (Jvm.Cond.instanceMethod ({ cls := "java/lang/StringBuilder", name := "toString", desc := "()Ljava/lang/String;" } : Jvm.MethodName)) ∈ lw_all := lw_g (lw_at lw_m3 59 rfl) rfl
theorem q609 : (Jvm.Cond.selects "java/lang/StringBuilder" ({ cls := "java/lang/StringBuilder", name := "toString", desc := "()Ljava/lang/String;" } : Jvm.MethodName) ({ cls := "java/lang/StringBuilder", name := "toString", desc := "()Ljava/lang/String;" } : Jvm.MethodName)) ∈ lw_all := lw_g (lw_at lw_m3 60 rfl) rfl
theorem q610 : (Jvm.Cond.code ({ cls := "java/lang/StringBuilder", name := "toString", desc := "()Ljava/lang/String;" } : Jvm.MethodName) prog_33_method_42_code (1 : Nat) (Option.some (Jvm.ClassFile.FieldType.object "java/lang/String"))) ∈ lw_all := lw_g (lw_at lw_m3 61 rfl) rfl
theorem q611 : (Jvm.Cond.classLink "java/lang/StringBuilder" (18 : Nat) "java/lang/String") ∈ lw_all := lw_g (lw_at lw_m3 62 rfl) rfl
theorem q612 : (Jvm.Cond.methodLink "java/lang/StringBuilder" (137 : Nat) ({ cls := "java/lang/String", name := "<init>", desc := "(Ljava/lang/StringBuilder;)V" } : Jvm.MethodName)) ∈ lw_all := lw_g (lw_at lw_m3 63 rfl) rfl
theorem q622 : (Jvm.Cond.selects "java/lang/StringBuilder" ({ cls := "java/lang/AbstractStringBuilder", name := "getValue", desc := "()[B" } : Jvm.MethodName) ({ cls := "java/lang/AbstractStringBuilder", name := "getValue", desc := "()[B" } : Jvm.MethodName)) ∈ lw_all := lw_g (lw_at lw_m3 73 rfl) rfl
theorem q769 : (Jvm.Cond.instanceMethod ({ cls := "java/lang/StringBuilder", name := "charAt", desc := "(I)C" } : Jvm.MethodName)) ∈ lw_all := lw_g (lw_at lw_m3 220 rfl) rfl
theorem q770 : (Jvm.Cond.selects "java/lang/StringBuilder" ({ cls := "java/lang/StringBuilder", name := "charAt", desc := "(I)C" } : Jvm.MethodName) ({ cls := "java/lang/StringBuilder", name := "charAt", desc := "(I)C" } : Jvm.MethodName)) ∈ lw_all := lw_g (lw_at lw_m3 221 rfl) rfl
theorem q771 : (Jvm.Cond.code ({ cls := "java/lang/StringBuilder", name := "charAt", desc := "(I)C" } : Jvm.MethodName) prog_33_method_88_code (2 : Nat) (Option.some Jvm.ClassFile.FieldType.char)) ∈ lw_all := lw_g (lw_at lw_m3 222 rfl) rfl
theorem q772 : (Jvm.Cond.methodLink "java/lang/StringBuilder" (329 : Nat) ({ cls := "java/lang/AbstractStringBuilder", name := "charAt", desc := "(I)C" } : Jvm.MethodName)) ∈ lw_all := lw_g (lw_at lw_m3 223 rfl) rfl
theorem q1184 : (Jvm.Cond.selects "java/lang/StringBuilder" ({ cls := "java/lang/Object", name := "getClass", desc := "()Ljava/lang/Class;" } : Jvm.MethodName) ({ cls := "java/lang/Object", name := "getClass", desc := "()Ljava/lang/Class;" } : Jvm.MethodName)) ∈ lw_all := lw_g (lw_at lw_m5 155 rfl) rfl
theorem q1654 : (Jvm.Cond.instanceMethod ({ cls := "java/lang/StringBuilder", name := "append", desc := "(C)Ljava/lang/StringBuilder;" } : Jvm.MethodName)) ∈ lw_all := lw_g (lw_at lw_m7 145 rfl) rfl
theorem q1655 : (Jvm.Cond.selects "java/lang/StringBuilder" ({ cls := "java/lang/StringBuilder", name := "append", desc := "(C)Ljava/lang/StringBuilder;" } : Jvm.MethodName) ({ cls := "java/lang/StringBuilder", name := "append", desc := "(C)Ljava/lang/StringBuilder;" } : Jvm.MethodName)) ∈ lw_all := lw_g (lw_at lw_m7 146 rfl) rfl
theorem q1656 : (Jvm.Cond.code ({ cls := "java/lang/StringBuilder", name := "append", desc := "(C)Ljava/lang/StringBuilder;" } : Jvm.MethodName) prog_33_method_14_code (2 : Nat) (Option.some (Jvm.ClassFile.FieldType.object "java/lang/StringBuilder"))) ∈ lw_all := lw_g (lw_at lw_m7 147 rfl) rfl
theorem q1657 : (Jvm.Cond.methodLink "java/lang/StringBuilder" (50 : Nat) ({ cls := "java/lang/AbstractStringBuilder", name := "append", desc := "(C)Ljava/lang/AbstractStringBuilder;" } : Jvm.MethodName)) ∈ lw_all := lw_g (lw_at lw_m7 148 rfl) rfl
theorem q2157 : (Jvm.Cond.selects "java/lang/StringBuilder" ({ cls := "java/lang/AbstractStringBuilder", name := "length", desc := "()I" } : Jvm.MethodName) ({ cls := "java/lang/StringBuilder", name := "length", desc := "()I" } : Jvm.MethodName)) ∈ lw_all := lw_g (lw_at lw_m9 168 rfl) rfl
theorem q2177 : (Jvm.Cond.castable "java/lang/StringBuilder" "java/lang/Object") ∈ lw_tbl := lw_at lw_m9 188 rfl
theorem in_J10 : ∀ w ∈ wsJ100, w ∈ lw_all := lw_in wsJ100 [376, 378, 380, 382] (by decide +kernel) (by decide +kernel)
/-! java/lang/AbstractStringBuilder -/
set_option maxRecDepth 100000
def RJ9 : String := "java/lang/AbstractStringBuilder"
abbrev cJ9_init : ByteArray := prog_15_method_2_code
def yJ9_init : MethodName := ⟨RJ9, "<init>", "(I)V"⟩
def dkwJ9_init_1 : List UInt8 := [167, 0, 16, 42, 27, 184, 0, 26, 181, 0, 15, 42, 4, 181, 0, 22, 177]
abbrev dktJ9_init_1 : List UInt8 := dkwJ9_init_1 ++ []
def dkwJ9_init_0 : List UInt8 := [42, 183, 0, 3, 178, 0, 18, 153, 0, 18, 42, 27, 188, 8, 181, 0, 15, 42, 3, 181, 0, 22]
abbrev dktJ9_init_0 : List UInt8 := dkwJ9_init_0 ++ dktJ9_init_1
theorem dksJ9_init_0 : cJ9_init.data.toList.drop 0 = dktJ9_init_0 := by decide +kernel
theorem dksJ9_init_1 : cJ9_init.data.toList.drop 22 = dktJ9_init_1 := dk_seg dksJ9_init_0 22 rfl rfl
theorem dJ9_init_0 : decode cJ9_init 0 = .ok (.aload_n 0, 1) := dk_42 (dk_at dksJ9_init_0 0 rfl rfl)
theorem dJ9_init_1 : decode cJ9_init 1 = .ok (.invokespecial 3, 3) := dk_183 0 3 (dk_at dksJ9_init_0 1 rfl rfl)
theorem dJ9_init_4 : decode cJ9_init 4 = .ok (.getstatic 18, 3) := dk_178 0 18 (dk_at dksJ9_init_0 4 rfl rfl)
theorem dJ9_init_7 : decode cJ9_init 7 = .ok (.ifCond .eq 18, 3) := dk_153 0 18 (dk_at dksJ9_init_0 7 rfl rfl)
theorem dJ9_init_10 : decode cJ9_init 10 = .ok (.aload_n 0, 1) := dk_42 (dk_at dksJ9_init_0 10 rfl rfl)
theorem dJ9_init_11 : decode cJ9_init 11 = .ok (.iload_n 1, 1) := dk_27 (dk_at dksJ9_init_0 11 rfl rfl)
theorem dJ9_init_12 : decode cJ9_init 12 = .ok (.newarray .byte, 2) := dk_188_8 (dk_at dksJ9_init_0 12 rfl rfl)
theorem dJ9_init_14 : decode cJ9_init 14 = .ok (.putfield 15, 3) := dk_181 0 15 (dk_at dksJ9_init_0 14 rfl rfl)
theorem dJ9_init_17 : decode cJ9_init 17 = .ok (.aload_n 0, 1) := dk_42 (dk_at dksJ9_init_0 17 rfl rfl)
theorem dJ9_init_18 : decode cJ9_init 18 = .ok (.iconst 0, 1) := dk_3 (dk_at dksJ9_init_0 18 rfl rfl)
theorem dJ9_init_19 : decode cJ9_init 19 = .ok (.putfield 22, 3) := dk_181 0 22 (dk_at dksJ9_init_0 19 rfl rfl)
theorem dJ9_init_22 : decode cJ9_init 22 = .ok (.goto 16, 3) := dk_167 0 16 (dk_at dksJ9_init_1 0 rfl rfl)
theorem dJ9_init_25 : decode cJ9_init 25 = .ok (.aload_n 0, 1) := dk_42 (dk_at dksJ9_init_1 3 rfl rfl)
theorem dJ9_init_26 : decode cJ9_init 26 = .ok (.iload_n 1, 1) := dk_27 (dk_at dksJ9_init_1 4 rfl rfl)
theorem dJ9_init_27 : decode cJ9_init 27 = .ok (.invokestatic 26, 3) := dk_184 0 26 (dk_at dksJ9_init_1 5 rfl rfl)
theorem dJ9_init_30 : decode cJ9_init 30 = .ok (.putfield 15, 3) := dk_181 0 15 (dk_at dksJ9_init_1 8 rfl rfl)
theorem dJ9_init_33 : decode cJ9_init 33 = .ok (.aload_n 0, 1) := dk_42 (dk_at dksJ9_init_1 11 rfl rfl)
theorem dJ9_init_34 : decode cJ9_init 34 = .ok (.iconst 1, 1) := dk_4 (dk_at dksJ9_init_1 12 rfl rfl)
theorem dJ9_init_35 : decode cJ9_init 35 = .ok (.putfield 22, 3) := dk_181 0 22 (dk_at dksJ9_init_1 13 rfl rfl)
theorem dJ9_init_38 : decode cJ9_init 38 = .ok (.return_, 1) := dk_177 (dk_at dksJ9_init_1 16 rfl rfl)
abbrev cJ9_length : ByteArray := prog_15_method_6_code
def yJ9_length : MethodName := ⟨RJ9, "length", "()I"⟩
theorem dJ9_length_0 : decode cJ9_length 0 = .ok (.aload_n 0, 1) := by decide +kernel
theorem dJ9_length_1 : decode cJ9_length 1 = .ok (.getfield 79, 3) := by decide +kernel
theorem dJ9_length_4 : decode cJ9_length 4 = .ok (.ireturn, 1) := by decide +kernel
abbrev cJ9_setLength : ByteArray := prog_15_method_13_code
def yJ9_setLength : MethodName := ⟨RJ9, "setLength", "(I)V"⟩
def dkwJ9_setLength_3 : List UInt8 := [164, 0, 8, 42, 4, 181, 0, 73, 42, 27, 181, 0, 79, 177]
abbrev dktJ9_setLength_3 : List UInt8 := dkwJ9_setLength_3 ++ []
def dkwJ9_setLength_2 : List UInt8 := [167, 0, 31, 42, 180, 0, 15, 42, 180, 0, 79, 27, 184, 0, 137, 167, 0, 16, 42, 180, 0, 79, 27]
abbrev dktJ9_setLength_2 : List UInt8 := dkwJ9_setLength_2 ++ dktJ9_setLength_3
def dkwJ9_setLength_1 : List UInt8 := [162, 0, 40, 42, 182, 0, 83, 153, 0, 18, 42, 180, 0, 15, 42, 180, 0, 79, 27, 184, 0, 133]
abbrev dktJ9_setLength_1 : List UInt8 := dkwJ9_setLength_1 ++ dktJ9_setLength_2
def dkwJ9_setLength_0 : List UInt8 := [27, 156, 0, 12, 187, 0, 129, 89, 27, 183, 0, 131, 191, 42, 27, 182, 0, 100, 42, 180, 0, 79, 27]
abbrev dktJ9_setLength_0 : List UInt8 := dkwJ9_setLength_0 ++ dktJ9_setLength_1
theorem dksJ9_setLength_0 : cJ9_setLength.data.toList.drop 0 = dktJ9_setLength_0 := by decide +kernel
theorem dksJ9_setLength_1 : cJ9_setLength.data.toList.drop 23 = dktJ9_setLength_1 := dk_seg dksJ9_setLength_0 23 rfl rfl
theorem dksJ9_setLength_2 : cJ9_setLength.data.toList.drop 45 = dktJ9_setLength_2 := dk_seg dksJ9_setLength_1 22 rfl rfl
theorem dksJ9_setLength_3 : cJ9_setLength.data.toList.drop 68 = dktJ9_setLength_3 := dk_seg dksJ9_setLength_2 23 rfl rfl
theorem dJ9_setLength_0 : decode cJ9_setLength 0 = .ok (.iload_n 1, 1) := dk_27 (dk_at dksJ9_setLength_0 0 rfl rfl)
theorem dJ9_setLength_1 : decode cJ9_setLength 1 = .ok (.ifCond .ge 12, 3) := dk_156 0 12 (dk_at dksJ9_setLength_0 1 rfl rfl)
theorem dJ9_setLength_4 : decode cJ9_setLength 4 = .ok (.new 129, 3) := dk_187 0 129 (dk_at dksJ9_setLength_0 4 rfl rfl)
theorem dJ9_setLength_7 : decode cJ9_setLength 7 = .ok (.dup, 1) := dk_89 (dk_at dksJ9_setLength_0 7 rfl rfl)
theorem dJ9_setLength_8 : decode cJ9_setLength 8 = .ok (.iload_n 1, 1) := dk_27 (dk_at dksJ9_setLength_0 8 rfl rfl)
theorem dJ9_setLength_9 : decode cJ9_setLength 9 = .ok (.invokespecial 131, 3) := dk_183 0 131 (dk_at dksJ9_setLength_0 9 rfl rfl)
theorem dJ9_setLength_12 : decode cJ9_setLength 12 = .ok (.athrow, 1) := dk_191 (dk_at dksJ9_setLength_0 12 rfl rfl)
theorem dJ9_setLength_13 : decode cJ9_setLength 13 = .ok (.aload_n 0, 1) := dk_42 (dk_at dksJ9_setLength_0 13 rfl rfl)
theorem dJ9_setLength_14 : decode cJ9_setLength 14 = .ok (.iload_n 1, 1) := dk_27 (dk_at dksJ9_setLength_0 14 rfl rfl)
theorem dJ9_setLength_15 : decode cJ9_setLength 15 = .ok (.invokevirtual 100, 3) := dk_182 0 100 (dk_at dksJ9_setLength_0 15 rfl rfl)
theorem dJ9_setLength_18 : decode cJ9_setLength 18 = .ok (.aload_n 0, 1) := dk_42 (dk_at dksJ9_setLength_0 18 rfl rfl)
theorem dJ9_setLength_19 : decode cJ9_setLength 19 = .ok (.getfield 79, 3) := dk_180 0 79 (dk_at dksJ9_setLength_0 19 rfl rfl)
theorem dJ9_setLength_22 : decode cJ9_setLength 22 = .ok (.iload_n 1, 1) := dk_27 (dk_at dksJ9_setLength_0 22 rfl rfl)
theorem dJ9_setLength_23 : decode cJ9_setLength 23 = .ok (.if_icmp .ge 40, 3) := dk_162 0 40 (dk_at dksJ9_setLength_1 0 rfl rfl)
theorem dJ9_setLength_26 : decode cJ9_setLength 26 = .ok (.aload_n 0, 1) := dk_42 (dk_at dksJ9_setLength_1 3 rfl rfl)
theorem dJ9_setLength_27 : decode cJ9_setLength 27 = .ok (.invokevirtual 83, 3) := dk_182 0 83 (dk_at dksJ9_setLength_1 4 rfl rfl)
theorem dJ9_setLength_30 : decode cJ9_setLength 30 = .ok (.ifCond .eq 18, 3) := dk_153 0 18 (dk_at dksJ9_setLength_1 7 rfl rfl)
theorem dJ9_setLength_33 : decode cJ9_setLength 33 = .ok (.aload_n 0, 1) := dk_42 (dk_at dksJ9_setLength_1 10 rfl rfl)
theorem dJ9_setLength_34 : decode cJ9_setLength 34 = .ok (.getfield 15, 3) := dk_180 0 15 (dk_at dksJ9_setLength_1 11 rfl rfl)
theorem dJ9_setLength_37 : decode cJ9_setLength 37 = .ok (.aload_n 0, 1) := dk_42 (dk_at dksJ9_setLength_1 14 rfl rfl)
theorem dJ9_setLength_38 : decode cJ9_setLength 38 = .ok (.getfield 79, 3) := dk_180 0 79 (dk_at dksJ9_setLength_1 15 rfl rfl)
theorem dJ9_setLength_41 : decode cJ9_setLength 41 = .ok (.iload_n 1, 1) := dk_27 (dk_at dksJ9_setLength_1 18 rfl rfl)
theorem dJ9_setLength_42 : decode cJ9_setLength 42 = .ok (.invokestatic 133, 3) := dk_184 0 133 (dk_at dksJ9_setLength_1 19 rfl rfl)
theorem dJ9_setLength_45 : decode cJ9_setLength 45 = .ok (.goto 31, 3) := dk_167 0 31 (dk_at dksJ9_setLength_2 0 rfl rfl)
theorem dJ9_setLength_48 : decode cJ9_setLength 48 = .ok (.aload_n 0, 1) := dk_42 (dk_at dksJ9_setLength_2 3 rfl rfl)
theorem dJ9_setLength_49 : decode cJ9_setLength 49 = .ok (.getfield 15, 3) := dk_180 0 15 (dk_at dksJ9_setLength_2 4 rfl rfl)
theorem dJ9_setLength_52 : decode cJ9_setLength 52 = .ok (.aload_n 0, 1) := dk_42 (dk_at dksJ9_setLength_2 7 rfl rfl)
theorem dJ9_setLength_53 : decode cJ9_setLength 53 = .ok (.getfield 79, 3) := dk_180 0 79 (dk_at dksJ9_setLength_2 8 rfl rfl)
theorem dJ9_setLength_56 : decode cJ9_setLength 56 = .ok (.iload_n 1, 1) := dk_27 (dk_at dksJ9_setLength_2 11 rfl rfl)
theorem dJ9_setLength_57 : decode cJ9_setLength 57 = .ok (.invokestatic 137, 3) := dk_184 0 137 (dk_at dksJ9_setLength_2 12 rfl rfl)
theorem dJ9_setLength_60 : decode cJ9_setLength 60 = .ok (.goto 16, 3) := dk_167 0 16 (dk_at dksJ9_setLength_2 15 rfl rfl)
theorem dJ9_setLength_63 : decode cJ9_setLength 63 = .ok (.aload_n 0, 1) := dk_42 (dk_at dksJ9_setLength_2 18 rfl rfl)
theorem dJ9_setLength_64 : decode cJ9_setLength 64 = .ok (.getfield 79, 3) := dk_180 0 79 (dk_at dksJ9_setLength_2 19 rfl rfl)
theorem dJ9_setLength_67 : decode cJ9_setLength 67 = .ok (.iload_n 1, 1) := dk_27 (dk_at dksJ9_setLength_2 22 rfl rfl)
theorem dJ9_setLength_68 : decode cJ9_setLength 68 = .ok (.if_icmp .le 8, 3) := dk_164 0 8 (dk_at dksJ9_setLength_3 0 rfl rfl)
theorem dJ9_setLength_71 : decode cJ9_setLength 71 = .ok (.aload_n 0, 1) := dk_42 (dk_at dksJ9_setLength_3 3 rfl rfl)
theorem dJ9_setLength_72 : decode cJ9_setLength 72 = .ok (.iconst 1, 1) := dk_4 (dk_at dksJ9_setLength_3 4 rfl rfl)
theorem dJ9_setLength_73 : decode cJ9_setLength 73 = .ok (.putfield 73, 3) := dk_181 0 73 (dk_at dksJ9_setLength_3 5 rfl rfl)
theorem dJ9_setLength_76 : decode cJ9_setLength 76 = .ok (.aload_n 0, 1) := dk_42 (dk_at dksJ9_setLength_3 8 rfl rfl)
theorem dJ9_setLength_77 : decode cJ9_setLength 77 = .ok (.iload_n 1, 1) := dk_27 (dk_at dksJ9_setLength_3 9 rfl rfl)
theorem dJ9_setLength_78 : decode cJ9_setLength 78 = .ok (.putfield 79, 3) := dk_181 0 79 (dk_at dksJ9_setLength_3 10 rfl rfl)
theorem dJ9_setLength_81 : decode cJ9_setLength 81 = .ok (.return_, 1) := dk_177 (dk_at dksJ9_setLength_3 13 rfl rfl)
abbrev cJ9_append : ByteArray := prog_15_method_22_code
def yJ9_append : MethodName := ⟨RJ9, "append", "(Ljava/lang/String;)Ljava/lang/AbstractStringBuilder;"⟩
def dkwJ9_append_1 : List UInt8 := [42, 42, 180, 0, 79, 43, 182, 0, 208, 42, 89, 180, 0, 79, 28, 96, 181, 0, 79, 42, 176]
abbrev dktJ9_append_1 : List UInt8 := dkwJ9_append_1 ++ []
def dkwJ9_append_0 : List UInt8 := [43, 199, 0, 8, 42, 182, 0, 204, 176, 43, 182, 0, 32, 61, 42, 42, 180, 0, 79, 28, 96, 182, 0, 100]
abbrev dktJ9_append_0 : List UInt8 := dkwJ9_append_0 ++ dktJ9_append_1
theorem dksJ9_append_0 : cJ9_append.data.toList.drop 0 = dktJ9_append_0 := by decide +kernel
theorem dksJ9_append_1 : cJ9_append.data.toList.drop 24 = dktJ9_append_1 := dk_seg dksJ9_append_0 24 rfl rfl
theorem dJ9_append_0 : decode cJ9_append 0 = .ok (.aload_n 1, 1) := dk_43 (dk_at dksJ9_append_0 0 rfl rfl)
theorem dJ9_append_1 : decode cJ9_append 1 = .ok (.ifnonnull 8, 3) := dk_199 0 8 (dk_at dksJ9_append_0 1 rfl rfl)
theorem dJ9_append_4 : decode cJ9_append 4 = .ok (.aload_n 0, 1) := dk_42 (dk_at dksJ9_append_0 4 rfl rfl)
theorem dJ9_append_5 : decode cJ9_append 5 = .ok (.invokevirtual 204, 3) := dk_182 0 204 (dk_at dksJ9_append_0 5 rfl rfl)
theorem dJ9_append_8 : decode cJ9_append 8 = .ok (.areturn, 1) := dk_176 (dk_at dksJ9_append_0 8 rfl rfl)
theorem dJ9_append_9 : decode cJ9_append 9 = .ok (.aload_n 1, 1) := dk_43 (dk_at dksJ9_append_0 9 rfl rfl)
theorem dJ9_append_10 : decode cJ9_append 10 = .ok (.invokevirtual 32, 3) := dk_182 0 32 (dk_at dksJ9_append_0 10 rfl rfl)
theorem dJ9_append_13 : decode cJ9_append 13 = .ok (.istore_n 2, 1) := dk_61 (dk_at dksJ9_append_0 13 rfl rfl)
theorem dJ9_append_14 : decode cJ9_append 14 = .ok (.aload_n 0, 1) := dk_42 (dk_at dksJ9_append_0 14 rfl rfl)
theorem dJ9_append_15 : decode cJ9_append 15 = .ok (.aload_n 0, 1) := dk_42 (dk_at dksJ9_append_0 15 rfl rfl)
theorem dJ9_append_16 : decode cJ9_append 16 = .ok (.getfield 79, 3) := dk_180 0 79 (dk_at dksJ9_append_0 16 rfl rfl)
theorem dJ9_append_19 : decode cJ9_append 19 = .ok (.iload_n 2, 1) := dk_28 (dk_at dksJ9_append_0 19 rfl rfl)
theorem dJ9_append_20 : decode cJ9_append 20 = .ok (.iadd, 1) := dk_96 (dk_at dksJ9_append_0 20 rfl rfl)
theorem dJ9_append_21 : decode cJ9_append 21 = .ok (.invokevirtual 100, 3) := dk_182 0 100 (dk_at dksJ9_append_0 21 rfl rfl)
theorem dJ9_append_24 : decode cJ9_append 24 = .ok (.aload_n 0, 1) := dk_42 (dk_at dksJ9_append_1 0 rfl rfl)
theorem dJ9_append_25 : decode cJ9_append 25 = .ok (.aload_n 0, 1) := dk_42 (dk_at dksJ9_append_1 1 rfl rfl)
theorem dJ9_append_26 : decode cJ9_append 26 = .ok (.getfield 79, 3) := dk_180 0 79 (dk_at dksJ9_append_1 2 rfl rfl)
theorem dJ9_append_29 : decode cJ9_append 29 = .ok (.aload_n 1, 1) := dk_43 (dk_at dksJ9_append_1 5 rfl rfl)
theorem dJ9_append_30 : decode cJ9_append 30 = .ok (.invokevirtual 208, 3) := dk_182 0 208 (dk_at dksJ9_append_1 6 rfl rfl)
theorem dJ9_append_33 : decode cJ9_append 33 = .ok (.aload_n 0, 1) := dk_42 (dk_at dksJ9_append_1 9 rfl rfl)
theorem dJ9_append_34 : decode cJ9_append 34 = .ok (.dup, 1) := dk_89 (dk_at dksJ9_append_1 10 rfl rfl)
theorem dJ9_append_35 : decode cJ9_append 35 = .ok (.getfield 79, 3) := dk_180 0 79 (dk_at dksJ9_append_1 11 rfl rfl)
theorem dJ9_append_38 : decode cJ9_append 38 = .ok (.iload_n 2, 1) := dk_28 (dk_at dksJ9_append_1 14 rfl rfl)
theorem dJ9_append_39 : decode cJ9_append 39 = .ok (.iadd, 1) := dk_96 (dk_at dksJ9_append_1 15 rfl rfl)
theorem dJ9_append_40 : decode cJ9_append 40 = .ok (.putfield 79, 3) := dk_181 0 79 (dk_at dksJ9_append_1 16 rfl rfl)
theorem dJ9_append_43 : decode cJ9_append 43 = .ok (.aload_n 0, 1) := dk_42 (dk_at dksJ9_append_1 19 rfl rfl)
theorem dJ9_append_44 : decode cJ9_append 44 = .ok (.areturn, 1) := dk_176 (dk_at dksJ9_append_1 20 rfl rfl)
abbrev cJ9_appendNull : ByteArray := prog_15_method_26_code
def yJ9_appendNull : MethodName := ⟨RJ9, "appendNull", "()Ljava/lang/AbstractStringBuilder;"⟩
def dkwJ9_appendNull_3 : List UInt8 := [184, 0, 226, 60, 42, 27, 181, 0, 79, 42, 176]
abbrev dktJ9_appendNull_3 : List UInt8 := dkwJ9_appendNull_3 ++ []
def dkwJ9_appendNull_2 : List UInt8 := [16, 108, 84, 44, 27, 132, 1, 1, 16, 108, 84, 167, 0, 17, 44, 27, 16, 110, 16, 117, 16, 108, 16, 108]
abbrev dktJ9_appendNull_2 : List UInt8 := dkwJ9_appendNull_2 ++ dktJ9_appendNull_3
def dkwJ9_appendNull_1 : List UInt8 := [153, 0, 38, 44, 27, 132, 1, 1, 16, 110, 84, 44, 27, 132, 1, 1, 16, 117, 84, 44, 27, 132, 1, 1]
abbrev dktJ9_appendNull_1 : List UInt8 := dkwJ9_appendNull_1 ++ dktJ9_appendNull_2
def dkwJ9_appendNull_0 : List UInt8 := [42, 42, 180, 0, 79, 7, 96, 182, 0, 100, 42, 180, 0, 79, 60, 42, 180, 0, 15, 77, 42, 182, 0, 83]
abbrev dktJ9_appendNull_0 : List UInt8 := dkwJ9_appendNull_0 ++ dktJ9_appendNull_1
theorem dksJ9_appendNull_0 : cJ9_appendNull.data.toList.drop 0 = dktJ9_appendNull_0 := by decide +kernel
theorem dksJ9_appendNull_1 : cJ9_appendNull.data.toList.drop 24 = dktJ9_appendNull_1 := dk_seg dksJ9_appendNull_0 24 rfl rfl
theorem dksJ9_appendNull_2 : cJ9_appendNull.data.toList.drop 48 = dktJ9_appendNull_2 := dk_seg dksJ9_appendNull_1 24 rfl rfl
theorem dksJ9_appendNull_3 : cJ9_appendNull.data.toList.drop 72 = dktJ9_appendNull_3 := dk_seg dksJ9_appendNull_2 24 rfl rfl
theorem dJ9_appendNull_0 : decode cJ9_appendNull 0 = .ok (.aload_n 0, 1) := dk_42 (dk_at dksJ9_appendNull_0 0 rfl rfl)
theorem dJ9_appendNull_1 : decode cJ9_appendNull 1 = .ok (.aload_n 0, 1) := dk_42 (dk_at dksJ9_appendNull_0 1 rfl rfl)
theorem dJ9_appendNull_2 : decode cJ9_appendNull 2 = .ok (.getfield 79, 3) := dk_180 0 79 (dk_at dksJ9_appendNull_0 2 rfl rfl)
theorem dJ9_appendNull_5 : decode cJ9_appendNull 5 = .ok (.iconst 4, 1) := dk_7 (dk_at dksJ9_appendNull_0 5 rfl rfl)
theorem dJ9_appendNull_6 : decode cJ9_appendNull 6 = .ok (.iadd, 1) := dk_96 (dk_at dksJ9_appendNull_0 6 rfl rfl)
theorem dJ9_appendNull_7 : decode cJ9_appendNull 7 = .ok (.invokevirtual 100, 3) := dk_182 0 100 (dk_at dksJ9_appendNull_0 7 rfl rfl)
theorem dJ9_appendNull_10 : decode cJ9_appendNull 10 = .ok (.aload_n 0, 1) := dk_42 (dk_at dksJ9_appendNull_0 10 rfl rfl)
theorem dJ9_appendNull_11 : decode cJ9_appendNull 11 = .ok (.getfield 79, 3) := dk_180 0 79 (dk_at dksJ9_appendNull_0 11 rfl rfl)
theorem dJ9_appendNull_14 : decode cJ9_appendNull 14 = .ok (.istore_n 1, 1) := dk_60 (dk_at dksJ9_appendNull_0 14 rfl rfl)
theorem dJ9_appendNull_15 : decode cJ9_appendNull 15 = .ok (.aload_n 0, 1) := dk_42 (dk_at dksJ9_appendNull_0 15 rfl rfl)
theorem dJ9_appendNull_16 : decode cJ9_appendNull 16 = .ok (.getfield 15, 3) := dk_180 0 15 (dk_at dksJ9_appendNull_0 16 rfl rfl)
theorem dJ9_appendNull_19 : decode cJ9_appendNull 19 = .ok (.astore_n 2, 1) := dk_77 (dk_at dksJ9_appendNull_0 19 rfl rfl)
theorem dJ9_appendNull_20 : decode cJ9_appendNull 20 = .ok (.aload_n 0, 1) := dk_42 (dk_at dksJ9_appendNull_0 20 rfl rfl)
theorem dJ9_appendNull_21 : decode cJ9_appendNull 21 = .ok (.invokevirtual 83, 3) := dk_182 0 83 (dk_at dksJ9_appendNull_0 21 rfl rfl)
theorem dJ9_appendNull_24 : decode cJ9_appendNull 24 = .ok (.ifCond .eq 38, 3) := dk_153 0 38 (dk_at dksJ9_appendNull_1 0 rfl rfl)
theorem dJ9_appendNull_27 : decode cJ9_appendNull 27 = .ok (.aload_n 2, 1) := dk_44 (dk_at dksJ9_appendNull_1 3 rfl rfl)
theorem dJ9_appendNull_28 : decode cJ9_appendNull 28 = .ok (.iload_n 1, 1) := dk_27 (dk_at dksJ9_appendNull_1 4 rfl rfl)
theorem dJ9_appendNull_29 : decode cJ9_appendNull 29 = .ok (.iinc 1 1, 3) := dk_132 1 1 (dk_at dksJ9_appendNull_1 5 rfl rfl)
theorem dJ9_appendNull_32 : decode cJ9_appendNull 32 = .ok (.bipush 110, 2) := dk_16 110 (dk_at dksJ9_appendNull_1 8 rfl rfl)
theorem dJ9_appendNull_34 : decode cJ9_appendNull 34 = .ok (.bastore, 1) := dk_84 (dk_at dksJ9_appendNull_1 10 rfl rfl)
theorem dJ9_appendNull_35 : decode cJ9_appendNull 35 = .ok (.aload_n 2, 1) := dk_44 (dk_at dksJ9_appendNull_1 11 rfl rfl)
theorem dJ9_appendNull_36 : decode cJ9_appendNull 36 = .ok (.iload_n 1, 1) := dk_27 (dk_at dksJ9_appendNull_1 12 rfl rfl)
theorem dJ9_appendNull_37 : decode cJ9_appendNull 37 = .ok (.iinc 1 1, 3) := dk_132 1 1 (dk_at dksJ9_appendNull_1 13 rfl rfl)
theorem dJ9_appendNull_40 : decode cJ9_appendNull 40 = .ok (.bipush 117, 2) := dk_16 117 (dk_at dksJ9_appendNull_1 16 rfl rfl)
theorem dJ9_appendNull_42 : decode cJ9_appendNull 42 = .ok (.bastore, 1) := dk_84 (dk_at dksJ9_appendNull_1 18 rfl rfl)
theorem dJ9_appendNull_43 : decode cJ9_appendNull 43 = .ok (.aload_n 2, 1) := dk_44 (dk_at dksJ9_appendNull_1 19 rfl rfl)
theorem dJ9_appendNull_44 : decode cJ9_appendNull 44 = .ok (.iload_n 1, 1) := dk_27 (dk_at dksJ9_appendNull_1 20 rfl rfl)
theorem dJ9_appendNull_45 : decode cJ9_appendNull 45 = .ok (.iinc 1 1, 3) := dk_132 1 1 (dk_at dksJ9_appendNull_1 21 rfl rfl)
theorem dJ9_appendNull_48 : decode cJ9_appendNull 48 = .ok (.bipush 108, 2) := dk_16 108 (dk_at dksJ9_appendNull_2 0 rfl rfl)
theorem dJ9_appendNull_50 : decode cJ9_appendNull 50 = .ok (.bastore, 1) := dk_84 (dk_at dksJ9_appendNull_2 2 rfl rfl)
theorem dJ9_appendNull_51 : decode cJ9_appendNull 51 = .ok (.aload_n 2, 1) := dk_44 (dk_at dksJ9_appendNull_2 3 rfl rfl)
theorem dJ9_appendNull_52 : decode cJ9_appendNull 52 = .ok (.iload_n 1, 1) := dk_27 (dk_at dksJ9_appendNull_2 4 rfl rfl)
theorem dJ9_appendNull_53 : decode cJ9_appendNull 53 = .ok (.iinc 1 1, 3) := dk_132 1 1 (dk_at dksJ9_appendNull_2 5 rfl rfl)
theorem dJ9_appendNull_56 : decode cJ9_appendNull 56 = .ok (.bipush 108, 2) := dk_16 108 (dk_at dksJ9_appendNull_2 8 rfl rfl)
theorem dJ9_appendNull_58 : decode cJ9_appendNull 58 = .ok (.bastore, 1) := dk_84 (dk_at dksJ9_appendNull_2 10 rfl rfl)
theorem dJ9_appendNull_59 : decode cJ9_appendNull 59 = .ok (.goto 17, 3) := dk_167 0 17 (dk_at dksJ9_appendNull_2 11 rfl rfl)
theorem dJ9_appendNull_62 : decode cJ9_appendNull 62 = .ok (.aload_n 2, 1) := dk_44 (dk_at dksJ9_appendNull_2 14 rfl rfl)
theorem dJ9_appendNull_63 : decode cJ9_appendNull 63 = .ok (.iload_n 1, 1) := dk_27 (dk_at dksJ9_appendNull_2 15 rfl rfl)
theorem dJ9_appendNull_64 : decode cJ9_appendNull 64 = .ok (.bipush 110, 2) := dk_16 110 (dk_at dksJ9_appendNull_2 16 rfl rfl)
theorem dJ9_appendNull_66 : decode cJ9_appendNull 66 = .ok (.bipush 117, 2) := dk_16 117 (dk_at dksJ9_appendNull_2 18 rfl rfl)
theorem dJ9_appendNull_68 : decode cJ9_appendNull 68 = .ok (.bipush 108, 2) := dk_16 108 (dk_at dksJ9_appendNull_2 20 rfl rfl)
theorem dJ9_appendNull_70 : decode cJ9_appendNull 70 = .ok (.bipush 108, 2) := dk_16 108 (dk_at dksJ9_appendNull_2 22 rfl rfl)
theorem dJ9_appendNull_72 : decode cJ9_appendNull 72 = .ok (.invokestatic 226, 3) := dk_184 0 226 (dk_at dksJ9_appendNull_3 0 rfl rfl)
theorem dJ9_appendNull_75 : decode cJ9_appendNull 75 = .ok (.istore_n 1, 1) := dk_60 (dk_at dksJ9_appendNull_3 3 rfl rfl)
theorem dJ9_appendNull_76 : decode cJ9_appendNull 76 = .ok (.aload_n 0, 1) := dk_42 (dk_at dksJ9_appendNull_3 4 rfl rfl)
theorem dJ9_appendNull_77 : decode cJ9_appendNull 77 = .ok (.iload_n 1, 1) := dk_27 (dk_at dksJ9_appendNull_3 5 rfl rfl)
theorem dJ9_appendNull_78 : decode cJ9_appendNull 78 = .ok (.putfield 79, 3) := dk_181 0 79 (dk_at dksJ9_appendNull_3 6 rfl rfl)
theorem dJ9_appendNull_81 : decode cJ9_appendNull 81 = .ok (.aload_n 0, 1) := dk_42 (dk_at dksJ9_appendNull_3 9 rfl rfl)
theorem dJ9_appendNull_82 : decode cJ9_appendNull 82 = .ok (.areturn, 1) := dk_176 (dk_at dksJ9_appendNull_3 10 rfl rfl)
abbrev cJ9_ensureCapacityInternal : ByteArray := prog_15_method_9_code
def yJ9_ensureCapacityInternal : MethodName := ⟨RJ9, "ensureCapacityInternal", "(I)V"⟩
def dkwJ9_ensureCapacityInternal_1 : List UInt8 := [182, 0, 104, 42, 180, 0, 22, 120, 184, 0, 108, 181, 0, 15, 177]
abbrev dktJ9_ensureCapacityInternal_1 : List UInt8 := dkwJ9_ensureCapacityInternal_1 ++ []
def dkwJ9_ensureCapacityInternal_0 : List UInt8 := [42, 180, 0, 15, 190, 42, 180, 0, 22, 122, 61, 27, 28, 100, 158, 0, 24, 42, 42, 180, 0, 15, 42, 27]
abbrev dktJ9_ensureCapacityInternal_0 : List UInt8 := dkwJ9_ensureCapacityInternal_0 ++ dktJ9_ensureCapacityInternal_1
theorem dksJ9_ensureCapacityInternal_0 : cJ9_ensureCapacityInternal.data.toList.drop 0 = dktJ9_ensureCapacityInternal_0 := by decide +kernel
theorem dksJ9_ensureCapacityInternal_1 : cJ9_ensureCapacityInternal.data.toList.drop 24 = dktJ9_ensureCapacityInternal_1 := dk_seg dksJ9_ensureCapacityInternal_0 24 rfl rfl
theorem dJ9_ensureCapacityInternal_0 : decode cJ9_ensureCapacityInternal 0 = .ok (.aload_n 0, 1) := dk_42 (dk_at dksJ9_ensureCapacityInternal_0 0 rfl rfl)
theorem dJ9_ensureCapacityInternal_1 : decode cJ9_ensureCapacityInternal 1 = .ok (.getfield 15, 3) := dk_180 0 15 (dk_at dksJ9_ensureCapacityInternal_0 1 rfl rfl)
theorem dJ9_ensureCapacityInternal_4 : decode cJ9_ensureCapacityInternal 4 = .ok (.arraylength, 1) := dk_190 (dk_at dksJ9_ensureCapacityInternal_0 4 rfl rfl)
theorem dJ9_ensureCapacityInternal_5 : decode cJ9_ensureCapacityInternal 5 = .ok (.aload_n 0, 1) := dk_42 (dk_at dksJ9_ensureCapacityInternal_0 5 rfl rfl)
theorem dJ9_ensureCapacityInternal_6 : decode cJ9_ensureCapacityInternal 6 = .ok (.getfield 22, 3) := dk_180 0 22 (dk_at dksJ9_ensureCapacityInternal_0 6 rfl rfl)
theorem dJ9_ensureCapacityInternal_9 : decode cJ9_ensureCapacityInternal 9 = .ok (.ishr, 1) := dk_122 (dk_at dksJ9_ensureCapacityInternal_0 9 rfl rfl)
theorem dJ9_ensureCapacityInternal_10 : decode cJ9_ensureCapacityInternal 10 = .ok (.istore_n 2, 1) := dk_61 (dk_at dksJ9_ensureCapacityInternal_0 10 rfl rfl)
theorem dJ9_ensureCapacityInternal_11 : decode cJ9_ensureCapacityInternal 11 = .ok (.iload_n 1, 1) := dk_27 (dk_at dksJ9_ensureCapacityInternal_0 11 rfl rfl)
theorem dJ9_ensureCapacityInternal_12 : decode cJ9_ensureCapacityInternal 12 = .ok (.iload_n 2, 1) := dk_28 (dk_at dksJ9_ensureCapacityInternal_0 12 rfl rfl)
theorem dJ9_ensureCapacityInternal_13 : decode cJ9_ensureCapacityInternal 13 = .ok (.isub, 1) := dk_100 (dk_at dksJ9_ensureCapacityInternal_0 13 rfl rfl)
theorem dJ9_ensureCapacityInternal_14 : decode cJ9_ensureCapacityInternal 14 = .ok (.ifCond .le 24, 3) := dk_158 0 24 (dk_at dksJ9_ensureCapacityInternal_0 14 rfl rfl)
theorem dJ9_ensureCapacityInternal_17 : decode cJ9_ensureCapacityInternal 17 = .ok (.aload_n 0, 1) := dk_42 (dk_at dksJ9_ensureCapacityInternal_0 17 rfl rfl)
theorem dJ9_ensureCapacityInternal_18 : decode cJ9_ensureCapacityInternal 18 = .ok (.aload_n 0, 1) := dk_42 (dk_at dksJ9_ensureCapacityInternal_0 18 rfl rfl)
theorem dJ9_ensureCapacityInternal_19 : decode cJ9_ensureCapacityInternal 19 = .ok (.getfield 15, 3) := dk_180 0 15 (dk_at dksJ9_ensureCapacityInternal_0 19 rfl rfl)
theorem dJ9_ensureCapacityInternal_22 : decode cJ9_ensureCapacityInternal 22 = .ok (.aload_n 0, 1) := dk_42 (dk_at dksJ9_ensureCapacityInternal_0 22 rfl rfl)
theorem dJ9_ensureCapacityInternal_23 : decode cJ9_ensureCapacityInternal 23 = .ok (.iload_n 1, 1) := dk_27 (dk_at dksJ9_ensureCapacityInternal_0 23 rfl rfl)
theorem dJ9_ensureCapacityInternal_24 : decode cJ9_ensureCapacityInternal 24 = .ok (.invokevirtual 104, 3) := dk_182 0 104 (dk_at dksJ9_ensureCapacityInternal_1 0 rfl rfl)
theorem dJ9_ensureCapacityInternal_27 : decode cJ9_ensureCapacityInternal 27 = .ok (.aload_n 0, 1) := dk_42 (dk_at dksJ9_ensureCapacityInternal_1 3 rfl rfl)
theorem dJ9_ensureCapacityInternal_28 : decode cJ9_ensureCapacityInternal 28 = .ok (.getfield 22, 3) := dk_180 0 22 (dk_at dksJ9_ensureCapacityInternal_1 4 rfl rfl)
theorem dJ9_ensureCapacityInternal_31 : decode cJ9_ensureCapacityInternal 31 = .ok (.ishl, 1) := dk_120 (dk_at dksJ9_ensureCapacityInternal_1 7 rfl rfl)
theorem dJ9_ensureCapacityInternal_32 : decode cJ9_ensureCapacityInternal 32 = .ok (.invokestatic 108, 3) := dk_184 0 108 (dk_at dksJ9_ensureCapacityInternal_1 8 rfl rfl)
theorem dJ9_ensureCapacityInternal_35 : decode cJ9_ensureCapacityInternal 35 = .ok (.putfield 15, 3) := dk_181 0 15 (dk_at dksJ9_ensureCapacityInternal_1 11 rfl rfl)
theorem dJ9_ensureCapacityInternal_38 : decode cJ9_ensureCapacityInternal 38 = .ok (.return_, 1) := dk_177 (dk_at dksJ9_ensureCapacityInternal_1 14 rfl rfl)
abbrev cJ9_newCapacity : ByteArray := prog_15_method_10_code
def yJ9_newCapacity : MethodName := ⟨RJ9, "newCapacity", "(I)I"⟩
def dkwJ9_newCapacity_2 : List UInt8 := [183, 0, 124, 191, 21, 5, 42, 180, 0, 22, 122, 172]
abbrev dktJ9_newCapacity_2 : List UInt8 := dkwJ9_newCapacity_2 ++ []
def dkwJ9_newCapacity_1 : List UInt8 := [180, 0, 22, 120, 96, 184, 0, 114, 54, 5, 21, 5, 18, 39, 160, 0, 13, 187, 0, 120, 89, 18, 122]
abbrev dktJ9_newCapacity_1 : List UInt8 := dkwJ9_newCapacity_1 ++ dktJ9_newCapacity_2
def dkwJ9_newCapacity_0 : List UInt8 := [42, 180, 0, 15, 190, 61, 27, 42, 180, 0, 22, 120, 62, 29, 28, 100, 54, 4, 28, 21, 4, 28, 5, 42]
abbrev dktJ9_newCapacity_0 : List UInt8 := dkwJ9_newCapacity_0 ++ dktJ9_newCapacity_1
theorem dksJ9_newCapacity_0 : cJ9_newCapacity.data.toList.drop 0 = dktJ9_newCapacity_0 := by decide +kernel
theorem dksJ9_newCapacity_1 : cJ9_newCapacity.data.toList.drop 24 = dktJ9_newCapacity_1 := dk_seg dksJ9_newCapacity_0 24 rfl rfl
theorem dksJ9_newCapacity_2 : cJ9_newCapacity.data.toList.drop 47 = dktJ9_newCapacity_2 := dk_seg dksJ9_newCapacity_1 23 rfl rfl
theorem dJ9_newCapacity_0 : decode cJ9_newCapacity 0 = .ok (.aload_n 0, 1) := dk_42 (dk_at dksJ9_newCapacity_0 0 rfl rfl)
theorem dJ9_newCapacity_1 : decode cJ9_newCapacity 1 = .ok (.getfield 15, 3) := dk_180 0 15 (dk_at dksJ9_newCapacity_0 1 rfl rfl)
theorem dJ9_newCapacity_4 : decode cJ9_newCapacity 4 = .ok (.arraylength, 1) := dk_190 (dk_at dksJ9_newCapacity_0 4 rfl rfl)
theorem dJ9_newCapacity_5 : decode cJ9_newCapacity 5 = .ok (.istore_n 2, 1) := dk_61 (dk_at dksJ9_newCapacity_0 5 rfl rfl)
theorem dJ9_newCapacity_6 : decode cJ9_newCapacity 6 = .ok (.iload_n 1, 1) := dk_27 (dk_at dksJ9_newCapacity_0 6 rfl rfl)
theorem dJ9_newCapacity_7 : decode cJ9_newCapacity 7 = .ok (.aload_n 0, 1) := dk_42 (dk_at dksJ9_newCapacity_0 7 rfl rfl)
theorem dJ9_newCapacity_8 : decode cJ9_newCapacity 8 = .ok (.getfield 22, 3) := dk_180 0 22 (dk_at dksJ9_newCapacity_0 8 rfl rfl)
theorem dJ9_newCapacity_11 : decode cJ9_newCapacity 11 = .ok (.ishl, 1) := dk_120 (dk_at dksJ9_newCapacity_0 11 rfl rfl)
theorem dJ9_newCapacity_12 : decode cJ9_newCapacity 12 = .ok (.istore_n 3, 1) := dk_62 (dk_at dksJ9_newCapacity_0 12 rfl rfl)
theorem dJ9_newCapacity_13 : decode cJ9_newCapacity 13 = .ok (.iload_n 3, 1) := dk_29 (dk_at dksJ9_newCapacity_0 13 rfl rfl)
theorem dJ9_newCapacity_14 : decode cJ9_newCapacity 14 = .ok (.iload_n 2, 1) := dk_28 (dk_at dksJ9_newCapacity_0 14 rfl rfl)
theorem dJ9_newCapacity_15 : decode cJ9_newCapacity 15 = .ok (.isub, 1) := dk_100 (dk_at dksJ9_newCapacity_0 15 rfl rfl)
theorem dJ9_newCapacity_16 : decode cJ9_newCapacity 16 = .ok (.istore 4, 2) := dk_54 4 (dk_at dksJ9_newCapacity_0 16 rfl rfl)
theorem dJ9_newCapacity_18 : decode cJ9_newCapacity 18 = .ok (.iload_n 2, 1) := dk_28 (dk_at dksJ9_newCapacity_0 18 rfl rfl)
theorem dJ9_newCapacity_19 : decode cJ9_newCapacity 19 = .ok (.iload 4, 2) := dk_21 4 (dk_at dksJ9_newCapacity_0 19 rfl rfl)
theorem dJ9_newCapacity_21 : decode cJ9_newCapacity 21 = .ok (.iload_n 2, 1) := dk_28 (dk_at dksJ9_newCapacity_0 21 rfl rfl)
theorem dJ9_newCapacity_22 : decode cJ9_newCapacity 22 = .ok (.iconst 2, 1) := dk_5 (dk_at dksJ9_newCapacity_0 22 rfl rfl)
theorem dJ9_newCapacity_23 : decode cJ9_newCapacity 23 = .ok (.aload_n 0, 1) := dk_42 (dk_at dksJ9_newCapacity_0 23 rfl rfl)
theorem dJ9_newCapacity_24 : decode cJ9_newCapacity 24 = .ok (.getfield 22, 3) := dk_180 0 22 (dk_at dksJ9_newCapacity_1 0 rfl rfl)
theorem dJ9_newCapacity_27 : decode cJ9_newCapacity 27 = .ok (.ishl, 1) := dk_120 (dk_at dksJ9_newCapacity_1 3 rfl rfl)
theorem dJ9_newCapacity_28 : decode cJ9_newCapacity 28 = .ok (.iadd, 1) := dk_96 (dk_at dksJ9_newCapacity_1 4 rfl rfl)
theorem dJ9_newCapacity_29 : decode cJ9_newCapacity 29 = .ok (.invokestatic 114, 3) := dk_184 0 114 (dk_at dksJ9_newCapacity_1 5 rfl rfl)
theorem dJ9_newCapacity_32 : decode cJ9_newCapacity 32 = .ok (.istore 5, 2) := dk_54 5 (dk_at dksJ9_newCapacity_1 8 rfl rfl)
theorem dJ9_newCapacity_34 : decode cJ9_newCapacity 34 = .ok (.iload 5, 2) := dk_21 5 (dk_at dksJ9_newCapacity_1 10 rfl rfl)
theorem dJ9_newCapacity_36 : decode cJ9_newCapacity 36 = .ok (.ldc 39, 2) := dk_18 39 (dk_at dksJ9_newCapacity_1 12 rfl rfl)
theorem dJ9_newCapacity_38 : decode cJ9_newCapacity 38 = .ok (.if_icmp .ne 13, 3) := dk_160 0 13 (dk_at dksJ9_newCapacity_1 14 rfl rfl)
theorem dJ9_newCapacity_41 : decode cJ9_newCapacity 41 = .ok (.new 120, 3) := dk_187 0 120 (dk_at dksJ9_newCapacity_1 17 rfl rfl)
theorem dJ9_newCapacity_44 : decode cJ9_newCapacity 44 = .ok (.dup, 1) := dk_89 (dk_at dksJ9_newCapacity_1 20 rfl rfl)
theorem dJ9_newCapacity_45 : decode cJ9_newCapacity 45 = .ok (.ldc 122, 2) := dk_18 122 (dk_at dksJ9_newCapacity_1 21 rfl rfl)
theorem dJ9_newCapacity_47 : decode cJ9_newCapacity 47 = .ok (.invokespecial 124, 3) := dk_183 0 124 (dk_at dksJ9_newCapacity_2 0 rfl rfl)
theorem dJ9_newCapacity_50 : decode cJ9_newCapacity 50 = .ok (.athrow, 1) := dk_191 (dk_at dksJ9_newCapacity_2 3 rfl rfl)
theorem dJ9_newCapacity_51 : decode cJ9_newCapacity 51 = .ok (.iload 5, 2) := dk_21 5 (dk_at dksJ9_newCapacity_2 4 rfl rfl)
theorem dJ9_newCapacity_53 : decode cJ9_newCapacity 53 = .ok (.aload_n 0, 1) := dk_42 (dk_at dksJ9_newCapacity_2 6 rfl rfl)
theorem dJ9_newCapacity_54 : decode cJ9_newCapacity 54 = .ok (.getfield 22, 3) := dk_180 0 22 (dk_at dksJ9_newCapacity_2 7 rfl rfl)
theorem dJ9_newCapacity_57 : decode cJ9_newCapacity 57 = .ok (.ishr, 1) := dk_122 (dk_at dksJ9_newCapacity_2 10 rfl rfl)
theorem dJ9_newCapacity_58 : decode cJ9_newCapacity 58 = .ok (.ireturn, 1) := dk_172 (dk_at dksJ9_newCapacity_2 11 rfl rfl)
abbrev cJ9_isLatin1 : ByteArray := prog_15_method_68_code
def yJ9_isLatin1 : MethodName := ⟨RJ9, "isLatin1", "()Z"⟩
def dkwJ9_isLatin1_0 : List UInt8 := [178, 0, 18, 153, 0, 14, 42, 180, 0, 22, 154, 0, 7, 4, 167, 0, 4, 3, 172]
abbrev dktJ9_isLatin1_0 : List UInt8 := dkwJ9_isLatin1_0 ++ []
theorem dksJ9_isLatin1_0 : cJ9_isLatin1.data.toList.drop 0 = dktJ9_isLatin1_0 := by decide +kernel
theorem dJ9_isLatin1_0 : decode cJ9_isLatin1 0 = .ok (.getstatic 18, 3) := dk_178 0 18 (dk_at dksJ9_isLatin1_0 0 rfl rfl)
theorem dJ9_isLatin1_3 : decode cJ9_isLatin1 3 = .ok (.ifCond .eq 14, 3) := dk_153 0 14 (dk_at dksJ9_isLatin1_0 3 rfl rfl)
theorem dJ9_isLatin1_6 : decode cJ9_isLatin1 6 = .ok (.aload_n 0, 1) := dk_42 (dk_at dksJ9_isLatin1_0 6 rfl rfl)
theorem dJ9_isLatin1_7 : decode cJ9_isLatin1 7 = .ok (.getfield 22, 3) := dk_180 0 22 (dk_at dksJ9_isLatin1_0 7 rfl rfl)
theorem dJ9_isLatin1_10 : decode cJ9_isLatin1 10 = .ok (.ifCond .ne 7, 3) := dk_154 0 7 (dk_at dksJ9_isLatin1_0 10 rfl rfl)
theorem dJ9_isLatin1_13 : decode cJ9_isLatin1 13 = .ok (.iconst 1, 1) := dk_4 (dk_at dksJ9_isLatin1_0 13 rfl rfl)
theorem dJ9_isLatin1_14 : decode cJ9_isLatin1 14 = .ok (.goto 4, 3) := dk_167 0 4 (dk_at dksJ9_isLatin1_0 14 rfl rfl)
theorem dJ9_isLatin1_17 : decode cJ9_isLatin1 17 = .ok (.iconst 0, 1) := dk_3 (dk_at dksJ9_isLatin1_0 17 rfl rfl)
theorem dJ9_isLatin1_18 : decode cJ9_isLatin1 18 = .ok (.ireturn, 1) := dk_172 (dk_at dksJ9_isLatin1_0 18 rfl rfl)
abbrev cJ9_putStringAt : ByteArray := prog_15_method_73_code
def yJ9_putStringAt : MethodName := ⟨RJ9, "putStringAt", "(ILjava/lang/String;)V"⟩
def dkwJ9_putStringAt_0 : List UInt8 := [42, 44, 182, 1, 141, 44, 42, 180, 0, 15, 27, 42, 180, 0, 22, 182, 1, 143, 177]
abbrev dktJ9_putStringAt_0 : List UInt8 := dkwJ9_putStringAt_0 ++ []
theorem dksJ9_putStringAt_0 : cJ9_putStringAt.data.toList.drop 0 = dktJ9_putStringAt_0 := by decide +kernel
theorem dJ9_putStringAt_0 : decode cJ9_putStringAt 0 = .ok (.aload_n 0, 1) := dk_42 (dk_at dksJ9_putStringAt_0 0 rfl rfl)
theorem dJ9_putStringAt_1 : decode cJ9_putStringAt 1 = .ok (.aload_n 2, 1) := dk_44 (dk_at dksJ9_putStringAt_0 1 rfl rfl)
theorem dJ9_putStringAt_2 : decode cJ9_putStringAt 2 = .ok (.invokevirtual 397, 3) := dk_182 1 141 (dk_at dksJ9_putStringAt_0 2 rfl rfl)
theorem dJ9_putStringAt_5 : decode cJ9_putStringAt 5 = .ok (.aload_n 2, 1) := dk_44 (dk_at dksJ9_putStringAt_0 5 rfl rfl)
theorem dJ9_putStringAt_6 : decode cJ9_putStringAt 6 = .ok (.aload_n 0, 1) := dk_42 (dk_at dksJ9_putStringAt_0 6 rfl rfl)
theorem dJ9_putStringAt_7 : decode cJ9_putStringAt 7 = .ok (.getfield 15, 3) := dk_180 0 15 (dk_at dksJ9_putStringAt_0 7 rfl rfl)
theorem dJ9_putStringAt_10 : decode cJ9_putStringAt 10 = .ok (.iload_n 1, 1) := dk_27 (dk_at dksJ9_putStringAt_0 10 rfl rfl)
theorem dJ9_putStringAt_11 : decode cJ9_putStringAt 11 = .ok (.aload_n 0, 1) := dk_42 (dk_at dksJ9_putStringAt_0 11 rfl rfl)
theorem dJ9_putStringAt_12 : decode cJ9_putStringAt 12 = .ok (.getfield 22, 3) := dk_180 0 22 (dk_at dksJ9_putStringAt_0 12 rfl rfl)
theorem dJ9_putStringAt_15 : decode cJ9_putStringAt 15 = .ok (.invokevirtual 399, 3) := dk_182 1 143 (dk_at dksJ9_putStringAt_0 15 rfl rfl)
theorem dJ9_putStringAt_18 : decode cJ9_putStringAt 18 = .ok (.return_, 1) := dk_177 (dk_at dksJ9_putStringAt_0 18 rfl rfl)
abbrev cJ9_inflateIfNeededFor : ByteArray := prog_15_method_71_code
def yJ9_inflateIfNeededFor : MethodName := ⟨RJ9, "inflateIfNeededFor", "(Ljava/lang/String;)V"⟩
def dkwJ9_inflateIfNeededFor_0 : List UInt8 := [178, 0, 18, 153, 0, 18, 42, 180, 0, 22, 43, 182, 0, 40, 159, 0, 7, 42, 182, 0, 195, 177]
abbrev dktJ9_inflateIfNeededFor_0 : List UInt8 := dkwJ9_inflateIfNeededFor_0 ++ []
theorem dksJ9_inflateIfNeededFor_0 : cJ9_inflateIfNeededFor.data.toList.drop 0 = dktJ9_inflateIfNeededFor_0 := by decide +kernel
theorem dJ9_inflateIfNeededFor_0 : decode cJ9_inflateIfNeededFor 0 = .ok (.getstatic 18, 3) := dk_178 0 18 (dk_at dksJ9_inflateIfNeededFor_0 0 rfl rfl)
theorem dJ9_inflateIfNeededFor_3 : decode cJ9_inflateIfNeededFor 3 = .ok (.ifCond .eq 18, 3) := dk_153 0 18 (dk_at dksJ9_inflateIfNeededFor_0 3 rfl rfl)
theorem dJ9_inflateIfNeededFor_6 : decode cJ9_inflateIfNeededFor 6 = .ok (.aload_n 0, 1) := dk_42 (dk_at dksJ9_inflateIfNeededFor_0 6 rfl rfl)
theorem dJ9_inflateIfNeededFor_7 : decode cJ9_inflateIfNeededFor 7 = .ok (.getfield 22, 3) := dk_180 0 22 (dk_at dksJ9_inflateIfNeededFor_0 7 rfl rfl)
theorem dJ9_inflateIfNeededFor_10 : decode cJ9_inflateIfNeededFor 10 = .ok (.aload_n 1, 1) := dk_43 (dk_at dksJ9_inflateIfNeededFor_0 10 rfl rfl)
theorem dJ9_inflateIfNeededFor_11 : decode cJ9_inflateIfNeededFor 11 = .ok (.invokevirtual 40, 3) := dk_182 0 40 (dk_at dksJ9_inflateIfNeededFor_0 11 rfl rfl)
theorem dJ9_inflateIfNeededFor_14 : decode cJ9_inflateIfNeededFor 14 = .ok (.if_icmp .eq 7, 3) := dk_159 0 7 (dk_at dksJ9_inflateIfNeededFor_0 14 rfl rfl)
theorem dJ9_inflateIfNeededFor_17 : decode cJ9_inflateIfNeededFor 17 = .ok (.aload_n 0, 1) := dk_42 (dk_at dksJ9_inflateIfNeededFor_0 17 rfl rfl)
theorem dJ9_inflateIfNeededFor_18 : decode cJ9_inflateIfNeededFor 18 = .ok (.invokevirtual 195, 3) := dk_182 0 195 (dk_at dksJ9_inflateIfNeededFor_0 18 rfl rfl)
theorem dJ9_inflateIfNeededFor_21 : decode cJ9_inflateIfNeededFor 21 = .ok (.return_, 1) := dk_177 (dk_at dksJ9_inflateIfNeededFor_0 21 rfl rfl)
abbrev cJ9_inflate : ByteArray := prog_15_method_11_code
def yJ9_inflate : MethodName := ⟨RJ9, "inflate", "()V"⟩
def dkwJ9_inflate_1 : List UInt8 := [42, 180, 0, 79, 184, 0, 125, 42, 43, 181, 0, 15, 42, 4, 181, 0, 22, 177]
abbrev dktJ9_inflate_1 : List UInt8 := dkwJ9_inflate_1 ++ []
def dkwJ9_inflate_0 : List UInt8 := [42, 182, 0, 83, 154, 0, 4, 177, 42, 180, 0, 15, 190, 184, 0, 26, 76, 42, 180, 0, 15, 3, 43, 3]
abbrev dktJ9_inflate_0 : List UInt8 := dkwJ9_inflate_0 ++ dktJ9_inflate_1
theorem dksJ9_inflate_0 : cJ9_inflate.data.toList.drop 0 = dktJ9_inflate_0 := by decide +kernel
theorem dksJ9_inflate_1 : cJ9_inflate.data.toList.drop 24 = dktJ9_inflate_1 := dk_seg dksJ9_inflate_0 24 rfl rfl
theorem dJ9_inflate_0 : decode cJ9_inflate 0 = .ok (.aload_n 0, 1) := dk_42 (dk_at dksJ9_inflate_0 0 rfl rfl)
theorem dJ9_inflate_1 : decode cJ9_inflate 1 = .ok (.invokevirtual 83, 3) := dk_182 0 83 (dk_at dksJ9_inflate_0 1 rfl rfl)
theorem dJ9_inflate_4 : decode cJ9_inflate 4 = .ok (.ifCond .ne 4, 3) := dk_154 0 4 (dk_at dksJ9_inflate_0 4 rfl rfl)
theorem dJ9_inflate_7 : decode cJ9_inflate 7 = .ok (.return_, 1) := dk_177 (dk_at dksJ9_inflate_0 7 rfl rfl)
theorem dJ9_inflate_8 : decode cJ9_inflate 8 = .ok (.aload_n 0, 1) := dk_42 (dk_at dksJ9_inflate_0 8 rfl rfl)
theorem dJ9_inflate_9 : decode cJ9_inflate 9 = .ok (.getfield 15, 3) := dk_180 0 15 (dk_at dksJ9_inflate_0 9 rfl rfl)
theorem dJ9_inflate_12 : decode cJ9_inflate 12 = .ok (.arraylength, 1) := dk_190 (dk_at dksJ9_inflate_0 12 rfl rfl)
theorem dJ9_inflate_13 : decode cJ9_inflate 13 = .ok (.invokestatic 26, 3) := dk_184 0 26 (dk_at dksJ9_inflate_0 13 rfl rfl)
theorem dJ9_inflate_16 : decode cJ9_inflate 16 = .ok (.astore_n 1, 1) := dk_76 (dk_at dksJ9_inflate_0 16 rfl rfl)
theorem dJ9_inflate_17 : decode cJ9_inflate 17 = .ok (.aload_n 0, 1) := dk_42 (dk_at dksJ9_inflate_0 17 rfl rfl)
theorem dJ9_inflate_18 : decode cJ9_inflate 18 = .ok (.getfield 15, 3) := dk_180 0 15 (dk_at dksJ9_inflate_0 18 rfl rfl)
theorem dJ9_inflate_21 : decode cJ9_inflate 21 = .ok (.iconst 0, 1) := dk_3 (dk_at dksJ9_inflate_0 21 rfl rfl)
theorem dJ9_inflate_22 : decode cJ9_inflate 22 = .ok (.aload_n 1, 1) := dk_43 (dk_at dksJ9_inflate_0 22 rfl rfl)
theorem dJ9_inflate_23 : decode cJ9_inflate 23 = .ok (.iconst 0, 1) := dk_3 (dk_at dksJ9_inflate_0 23 rfl rfl)
theorem dJ9_inflate_24 : decode cJ9_inflate 24 = .ok (.aload_n 0, 1) := dk_42 (dk_at dksJ9_inflate_1 0 rfl rfl)
theorem dJ9_inflate_25 : decode cJ9_inflate 25 = .ok (.getfield 79, 3) := dk_180 0 79 (dk_at dksJ9_inflate_1 1 rfl rfl)
theorem dJ9_inflate_28 : decode cJ9_inflate 28 = .ok (.invokestatic 125, 3) := dk_184 0 125 (dk_at dksJ9_inflate_1 4 rfl rfl)
theorem dJ9_inflate_31 : decode cJ9_inflate 31 = .ok (.aload_n 0, 1) := dk_42 (dk_at dksJ9_inflate_1 7 rfl rfl)
theorem dJ9_inflate_32 : decode cJ9_inflate 32 = .ok (.aload_n 1, 1) := dk_43 (dk_at dksJ9_inflate_1 8 rfl rfl)
theorem dJ9_inflate_33 : decode cJ9_inflate 33 = .ok (.putfield 15, 3) := dk_181 0 15 (dk_at dksJ9_inflate_1 9 rfl rfl)
theorem dJ9_inflate_36 : decode cJ9_inflate 36 = .ok (.aload_n 0, 1) := dk_42 (dk_at dksJ9_inflate_1 12 rfl rfl)
theorem dJ9_inflate_37 : decode cJ9_inflate 37 = .ok (.iconst 1, 1) := dk_4 (dk_at dksJ9_inflate_1 13 rfl rfl)
theorem dJ9_inflate_38 : decode cJ9_inflate 38 = .ok (.putfield 22, 3) := dk_181 0 22 (dk_at dksJ9_inflate_1 14 rfl rfl)
theorem dJ9_inflate_41 : decode cJ9_inflate 41 = .ok (.return_, 1) := dk_177 (dk_at dksJ9_inflate_1 17 rfl rfl)
abbrev cJ9_append_2 : ByteArray := prog_15_method_32_code
def yJ9_append_2 : MethodName := ⟨RJ9, "append", "(I)Ljava/lang/AbstractStringBuilder;"⟩
def dkwJ9_append_2_2 : List UInt8 := [42, 29, 181, 0, 79, 42, 176]
abbrev dktJ9_append_2_2 : List UInt8 := dkwJ9_append_2_2 ++ []
def dkwJ9_append_2_1 : List UInt8 := [27, 29, 42, 180, 0, 15, 184, 0, 248, 87, 167, 0, 14, 27, 28, 29, 42, 180, 0, 15, 184, 0, 251, 87]
abbrev dktJ9_append_2_1 : List UInt8 := dkwJ9_append_2_1 ++ dktJ9_append_2_2
def dkwJ9_append_2_0 : List UInt8 := [42, 180, 0, 79, 61, 28, 27, 184, 0, 245, 96, 62, 42, 29, 182, 0, 100, 42, 182, 0, 83, 153, 0, 16]
abbrev dktJ9_append_2_0 : List UInt8 := dkwJ9_append_2_0 ++ dktJ9_append_2_1
theorem dksJ9_append_2_0 : cJ9_append_2.data.toList.drop 0 = dktJ9_append_2_0 := by decide +kernel
theorem dksJ9_append_2_1 : cJ9_append_2.data.toList.drop 24 = dktJ9_append_2_1 := dk_seg dksJ9_append_2_0 24 rfl rfl
theorem dksJ9_append_2_2 : cJ9_append_2.data.toList.drop 48 = dktJ9_append_2_2 := dk_seg dksJ9_append_2_1 24 rfl rfl
theorem dJ9_append_2_0 : decode cJ9_append_2 0 = .ok (.aload_n 0, 1) := dk_42 (dk_at dksJ9_append_2_0 0 rfl rfl)
theorem dJ9_append_2_1 : decode cJ9_append_2 1 = .ok (.getfield 79, 3) := dk_180 0 79 (dk_at dksJ9_append_2_0 1 rfl rfl)
theorem dJ9_append_2_4 : decode cJ9_append_2 4 = .ok (.istore_n 2, 1) := dk_61 (dk_at dksJ9_append_2_0 4 rfl rfl)
theorem dJ9_append_2_5 : decode cJ9_append_2 5 = .ok (.iload_n 2, 1) := dk_28 (dk_at dksJ9_append_2_0 5 rfl rfl)
theorem dJ9_append_2_6 : decode cJ9_append_2 6 = .ok (.iload_n 1, 1) := dk_27 (dk_at dksJ9_append_2_0 6 rfl rfl)
theorem dJ9_append_2_7 : decode cJ9_append_2 7 = .ok (.invokestatic 245, 3) := dk_184 0 245 (dk_at dksJ9_append_2_0 7 rfl rfl)
theorem dJ9_append_2_10 : decode cJ9_append_2 10 = .ok (.iadd, 1) := dk_96 (dk_at dksJ9_append_2_0 10 rfl rfl)
theorem dJ9_append_2_11 : decode cJ9_append_2 11 = .ok (.istore_n 3, 1) := dk_62 (dk_at dksJ9_append_2_0 11 rfl rfl)
theorem dJ9_append_2_12 : decode cJ9_append_2 12 = .ok (.aload_n 0, 1) := dk_42 (dk_at dksJ9_append_2_0 12 rfl rfl)
theorem dJ9_append_2_13 : decode cJ9_append_2 13 = .ok (.iload_n 3, 1) := dk_29 (dk_at dksJ9_append_2_0 13 rfl rfl)
theorem dJ9_append_2_14 : decode cJ9_append_2 14 = .ok (.invokevirtual 100, 3) := dk_182 0 100 (dk_at dksJ9_append_2_0 14 rfl rfl)
theorem dJ9_append_2_17 : decode cJ9_append_2 17 = .ok (.aload_n 0, 1) := dk_42 (dk_at dksJ9_append_2_0 17 rfl rfl)
theorem dJ9_append_2_18 : decode cJ9_append_2 18 = .ok (.invokevirtual 83, 3) := dk_182 0 83 (dk_at dksJ9_append_2_0 18 rfl rfl)
theorem dJ9_append_2_21 : decode cJ9_append_2 21 = .ok (.ifCond .eq 16, 3) := dk_153 0 16 (dk_at dksJ9_append_2_0 21 rfl rfl)
theorem dJ9_append_2_24 : decode cJ9_append_2 24 = .ok (.iload_n 1, 1) := dk_27 (dk_at dksJ9_append_2_1 0 rfl rfl)
theorem dJ9_append_2_25 : decode cJ9_append_2 25 = .ok (.iload_n 3, 1) := dk_29 (dk_at dksJ9_append_2_1 1 rfl rfl)
theorem dJ9_append_2_26 : decode cJ9_append_2 26 = .ok (.aload_n 0, 1) := dk_42 (dk_at dksJ9_append_2_1 2 rfl rfl)
theorem dJ9_append_2_27 : decode cJ9_append_2 27 = .ok (.getfield 15, 3) := dk_180 0 15 (dk_at dksJ9_append_2_1 3 rfl rfl)
theorem dJ9_append_2_30 : decode cJ9_append_2 30 = .ok (.invokestatic 248, 3) := dk_184 0 248 (dk_at dksJ9_append_2_1 6 rfl rfl)
theorem dJ9_append_2_33 : decode cJ9_append_2 33 = .ok (.pop, 1) := dk_87 (dk_at dksJ9_append_2_1 9 rfl rfl)
theorem dJ9_append_2_34 : decode cJ9_append_2 34 = .ok (.goto 14, 3) := dk_167 0 14 (dk_at dksJ9_append_2_1 10 rfl rfl)
theorem dJ9_append_2_37 : decode cJ9_append_2 37 = .ok (.iload_n 1, 1) := dk_27 (dk_at dksJ9_append_2_1 13 rfl rfl)
theorem dJ9_append_2_38 : decode cJ9_append_2 38 = .ok (.iload_n 2, 1) := dk_28 (dk_at dksJ9_append_2_1 14 rfl rfl)
theorem dJ9_append_2_39 : decode cJ9_append_2 39 = .ok (.iload_n 3, 1) := dk_29 (dk_at dksJ9_append_2_1 15 rfl rfl)
theorem dJ9_append_2_40 : decode cJ9_append_2 40 = .ok (.aload_n 0, 1) := dk_42 (dk_at dksJ9_append_2_1 16 rfl rfl)
theorem dJ9_append_2_41 : decode cJ9_append_2 41 = .ok (.getfield 15, 3) := dk_180 0 15 (dk_at dksJ9_append_2_1 17 rfl rfl)
theorem dJ9_append_2_44 : decode cJ9_append_2 44 = .ok (.invokestatic 251, 3) := dk_184 0 251 (dk_at dksJ9_append_2_1 20 rfl rfl)
theorem dJ9_append_2_47 : decode cJ9_append_2 47 = .ok (.pop, 1) := dk_87 (dk_at dksJ9_append_2_1 23 rfl rfl)
theorem dJ9_append_2_48 : decode cJ9_append_2 48 = .ok (.aload_n 0, 1) := dk_42 (dk_at dksJ9_append_2_2 0 rfl rfl)
theorem dJ9_append_2_49 : decode cJ9_append_2 49 = .ok (.iload_n 3, 1) := dk_29 (dk_at dksJ9_append_2_2 1 rfl rfl)
theorem dJ9_append_2_50 : decode cJ9_append_2 50 = .ok (.putfield 79, 3) := dk_181 0 79 (dk_at dksJ9_append_2_2 2 rfl rfl)
theorem dJ9_append_2_53 : decode cJ9_append_2 53 = .ok (.aload_n 0, 1) := dk_42 (dk_at dksJ9_append_2_2 5 rfl rfl)
theorem dJ9_append_2_54 : decode cJ9_append_2 54 = .ok (.areturn, 1) := dk_176 (dk_at dksJ9_append_2_2 6 rfl rfl)
abbrev cJ9_getValue : ByteArray := prog_15_method_64_code
def yJ9_getValue : MethodName := ⟨RJ9, "getValue", "()[B"⟩
theorem dJ9_getValue_0 : decode cJ9_getValue 0 = .ok (.aload_n 0, 1) := by decide +kernel
theorem dJ9_getValue_1 : decode cJ9_getValue 1 = .ok (.getfield 15, 3) := by decide +kernel
theorem dJ9_getValue_4 : decode cJ9_getValue 4 = .ok (.areturn, 1) := by decide +kernel
abbrev cJ9_charAt : ByteArray := prog_15_method_14_code
def yJ9_charAt : MethodName := ⟨RJ9, "charAt", "(I)C"⟩
def dkwJ9_charAt_1 : List UInt8 := [21, 4, 184, 0, 144, 28, 154, 0, 12, 45, 27, 51, 17, 0, 255, 126, 146, 172, 45, 27, 184, 0, 148, 172]
abbrev dktJ9_charAt_1 : List UInt8 := dkwJ9_charAt_1 ++ []
def dkwJ9_charAt_0 : List UInt8 := [42, 180, 0, 22, 61, 42, 180, 0, 15, 78, 42, 180, 0, 79, 45, 190, 28, 122, 184, 0, 138, 54, 4, 27]
abbrev dktJ9_charAt_0 : List UInt8 := dkwJ9_charAt_0 ++ dktJ9_charAt_1
theorem dksJ9_charAt_0 : cJ9_charAt.data.toList.drop 0 = dktJ9_charAt_0 := by decide +kernel
theorem dksJ9_charAt_1 : cJ9_charAt.data.toList.drop 24 = dktJ9_charAt_1 := dk_seg dksJ9_charAt_0 24 rfl rfl
theorem dJ9_charAt_0 : decode cJ9_charAt 0 = .ok (.aload_n 0, 1) := dk_42 (dk_at dksJ9_charAt_0 0 rfl rfl)
theorem dJ9_charAt_1 : decode cJ9_charAt 1 = .ok (.getfield 22, 3) := dk_180 0 22 (dk_at dksJ9_charAt_0 1 rfl rfl)
theorem dJ9_charAt_4 : decode cJ9_charAt 4 = .ok (.istore_n 2, 1) := dk_61 (dk_at dksJ9_charAt_0 4 rfl rfl)
theorem dJ9_charAt_5 : decode cJ9_charAt 5 = .ok (.aload_n 0, 1) := dk_42 (dk_at dksJ9_charAt_0 5 rfl rfl)
theorem dJ9_charAt_6 : decode cJ9_charAt 6 = .ok (.getfield 15, 3) := dk_180 0 15 (dk_at dksJ9_charAt_0 6 rfl rfl)
theorem dJ9_charAt_9 : decode cJ9_charAt 9 = .ok (.astore_n 3, 1) := dk_78 (dk_at dksJ9_charAt_0 9 rfl rfl)
theorem dJ9_charAt_10 : decode cJ9_charAt 10 = .ok (.aload_n 0, 1) := dk_42 (dk_at dksJ9_charAt_0 10 rfl rfl)
theorem dJ9_charAt_11 : decode cJ9_charAt 11 = .ok (.getfield 79, 3) := dk_180 0 79 (dk_at dksJ9_charAt_0 11 rfl rfl)
theorem dJ9_charAt_14 : decode cJ9_charAt 14 = .ok (.aload_n 3, 1) := dk_45 (dk_at dksJ9_charAt_0 14 rfl rfl)
theorem dJ9_charAt_15 : decode cJ9_charAt 15 = .ok (.arraylength, 1) := dk_190 (dk_at dksJ9_charAt_0 15 rfl rfl)
theorem dJ9_charAt_16 : decode cJ9_charAt 16 = .ok (.iload_n 2, 1) := dk_28 (dk_at dksJ9_charAt_0 16 rfl rfl)
theorem dJ9_charAt_17 : decode cJ9_charAt 17 = .ok (.ishr, 1) := dk_122 (dk_at dksJ9_charAt_0 17 rfl rfl)
theorem dJ9_charAt_18 : decode cJ9_charAt 18 = .ok (.invokestatic 138, 3) := dk_184 0 138 (dk_at dksJ9_charAt_0 18 rfl rfl)
theorem dJ9_charAt_21 : decode cJ9_charAt 21 = .ok (.istore 4, 2) := dk_54 4 (dk_at dksJ9_charAt_0 21 rfl rfl)
theorem dJ9_charAt_23 : decode cJ9_charAt 23 = .ok (.iload_n 1, 1) := dk_27 (dk_at dksJ9_charAt_0 23 rfl rfl)
theorem dJ9_charAt_24 : decode cJ9_charAt 24 = .ok (.iload 4, 2) := dk_21 4 (dk_at dksJ9_charAt_1 0 rfl rfl)
theorem dJ9_charAt_26 : decode cJ9_charAt 26 = .ok (.invokestatic 144, 3) := dk_184 0 144 (dk_at dksJ9_charAt_1 2 rfl rfl)
theorem dJ9_charAt_29 : decode cJ9_charAt 29 = .ok (.iload_n 2, 1) := dk_28 (dk_at dksJ9_charAt_1 5 rfl rfl)
theorem dJ9_charAt_30 : decode cJ9_charAt 30 = .ok (.ifCond .ne 12, 3) := dk_154 0 12 (dk_at dksJ9_charAt_1 6 rfl rfl)
theorem dJ9_charAt_33 : decode cJ9_charAt 33 = .ok (.aload_n 3, 1) := dk_45 (dk_at dksJ9_charAt_1 9 rfl rfl)
theorem dJ9_charAt_34 : decode cJ9_charAt 34 = .ok (.iload_n 1, 1) := dk_27 (dk_at dksJ9_charAt_1 10 rfl rfl)
theorem dJ9_charAt_35 : decode cJ9_charAt 35 = .ok (.baload, 1) := dk_51 (dk_at dksJ9_charAt_1 11 rfl rfl)
theorem dJ9_charAt_36 : decode cJ9_charAt 36 = .ok (.sipush 255, 3) := dk_17 0 255 (dk_at dksJ9_charAt_1 12 rfl rfl)
theorem dJ9_charAt_39 : decode cJ9_charAt 39 = .ok (.iand, 1) := dk_126 (dk_at dksJ9_charAt_1 15 rfl rfl)
theorem dJ9_charAt_40 : decode cJ9_charAt 40 = .ok (.i2c, 1) := dk_146 (dk_at dksJ9_charAt_1 16 rfl rfl)
theorem dJ9_charAt_41 : decode cJ9_charAt 41 = .ok (.ireturn, 1) := dk_172 (dk_at dksJ9_charAt_1 17 rfl rfl)
theorem dJ9_charAt_42 : decode cJ9_charAt 42 = .ok (.aload_n 3, 1) := dk_45 (dk_at dksJ9_charAt_1 18 rfl rfl)
theorem dJ9_charAt_43 : decode cJ9_charAt 43 = .ok (.iload_n 1, 1) := dk_27 (dk_at dksJ9_charAt_1 19 rfl rfl)
theorem dJ9_charAt_44 : decode cJ9_charAt 44 = .ok (.invokestatic 148, 3) := dk_184 0 148 (dk_at dksJ9_charAt_1 20 rfl rfl)
theorem dJ9_charAt_47 : decode cJ9_charAt 47 = .ok (.ireturn, 1) := dk_172 (dk_at dksJ9_charAt_1 23 rfl rfl)
abbrev cJ9_append_3 : ByteArray := prog_15_method_31_code
def yJ9_append_3 : MethodName := ⟨RJ9, "append", "(C)Ljava/lang/AbstractStringBuilder;"⟩
def dkwJ9_append_3_3 : List UInt8 := [181, 0, 79, 27, 184, 0, 197, 42, 176]
abbrev dktJ9_append_3_3 : List UInt8 := dkwJ9_append_3_3 ++ []
def dkwJ9_append_3_2 : List UInt8 := [182, 0, 83, 153, 0, 7, 42, 182, 0, 195, 42, 180, 0, 15, 42, 89, 180, 0, 79, 90, 4, 96]
abbrev dktJ9_append_3_2 : List UInt8 := dkwJ9_append_3_2 ++ dktJ9_append_3_3
def dkwJ9_append_3_1 : List UInt8 := [42, 180, 0, 15, 42, 89, 180, 0, 79, 90, 4, 96, 181, 0, 79, 27, 145, 84, 167, 0, 33, 42]
abbrev dktJ9_append_3_1 : List UInt8 := dkwJ9_append_3_1 ++ dktJ9_append_3_2
def dkwJ9_append_3_0 : List UInt8 := [42, 42, 180, 0, 79, 4, 96, 182, 0, 100, 42, 182, 0, 83, 153, 0, 31, 27, 184, 0, 191, 153, 0, 24]
abbrev dktJ9_append_3_0 : List UInt8 := dkwJ9_append_3_0 ++ dktJ9_append_3_1
theorem dksJ9_append_3_0 : cJ9_append_3.data.toList.drop 0 = dktJ9_append_3_0 := by decide +kernel
theorem dksJ9_append_3_1 : cJ9_append_3.data.toList.drop 24 = dktJ9_append_3_1 := dk_seg dksJ9_append_3_0 24 rfl rfl
theorem dksJ9_append_3_2 : cJ9_append_3.data.toList.drop 46 = dktJ9_append_3_2 := dk_seg dksJ9_append_3_1 22 rfl rfl
theorem dksJ9_append_3_3 : cJ9_append_3.data.toList.drop 68 = dktJ9_append_3_3 := dk_seg dksJ9_append_3_2 22 rfl rfl
theorem dJ9_append_3_0 : decode cJ9_append_3 0 = .ok (.aload_n 0, 1) := dk_42 (dk_at dksJ9_append_3_0 0 rfl rfl)
theorem dJ9_append_3_1 : decode cJ9_append_3 1 = .ok (.aload_n 0, 1) := dk_42 (dk_at dksJ9_append_3_0 1 rfl rfl)
theorem dJ9_append_3_2 : decode cJ9_append_3 2 = .ok (.getfield 79, 3) := dk_180 0 79 (dk_at dksJ9_append_3_0 2 rfl rfl)
theorem dJ9_append_3_5 : decode cJ9_append_3 5 = .ok (.iconst 1, 1) := dk_4 (dk_at dksJ9_append_3_0 5 rfl rfl)
theorem dJ9_append_3_6 : decode cJ9_append_3 6 = .ok (.iadd, 1) := dk_96 (dk_at dksJ9_append_3_0 6 rfl rfl)
theorem dJ9_append_3_7 : decode cJ9_append_3 7 = .ok (.invokevirtual 100, 3) := dk_182 0 100 (dk_at dksJ9_append_3_0 7 rfl rfl)
theorem dJ9_append_3_10 : decode cJ9_append_3 10 = .ok (.aload_n 0, 1) := dk_42 (dk_at dksJ9_append_3_0 10 rfl rfl)
theorem dJ9_append_3_11 : decode cJ9_append_3 11 = .ok (.invokevirtual 83, 3) := dk_182 0 83 (dk_at dksJ9_append_3_0 11 rfl rfl)
theorem dJ9_append_3_14 : decode cJ9_append_3 14 = .ok (.ifCond .eq 31, 3) := dk_153 0 31 (dk_at dksJ9_append_3_0 14 rfl rfl)
theorem dJ9_append_3_17 : decode cJ9_append_3 17 = .ok (.iload_n 1, 1) := dk_27 (dk_at dksJ9_append_3_0 17 rfl rfl)
theorem dJ9_append_3_18 : decode cJ9_append_3 18 = .ok (.invokestatic 191, 3) := dk_184 0 191 (dk_at dksJ9_append_3_0 18 rfl rfl)
theorem dJ9_append_3_21 : decode cJ9_append_3 21 = .ok (.ifCond .eq 24, 3) := dk_153 0 24 (dk_at dksJ9_append_3_0 21 rfl rfl)
theorem dJ9_append_3_24 : decode cJ9_append_3 24 = .ok (.aload_n 0, 1) := dk_42 (dk_at dksJ9_append_3_1 0 rfl rfl)
theorem dJ9_append_3_25 : decode cJ9_append_3 25 = .ok (.getfield 15, 3) := dk_180 0 15 (dk_at dksJ9_append_3_1 1 rfl rfl)
theorem dJ9_append_3_28 : decode cJ9_append_3 28 = .ok (.aload_n 0, 1) := dk_42 (dk_at dksJ9_append_3_1 4 rfl rfl)
theorem dJ9_append_3_29 : decode cJ9_append_3 29 = .ok (.dup, 1) := dk_89 (dk_at dksJ9_append_3_1 5 rfl rfl)
theorem dJ9_append_3_30 : decode cJ9_append_3 30 = .ok (.getfield 79, 3) := dk_180 0 79 (dk_at dksJ9_append_3_1 6 rfl rfl)
theorem dJ9_append_3_33 : decode cJ9_append_3 33 = .ok (.dup_x1, 1) := dk_90 (dk_at dksJ9_append_3_1 9 rfl rfl)
theorem dJ9_append_3_34 : decode cJ9_append_3 34 = .ok (.iconst 1, 1) := dk_4 (dk_at dksJ9_append_3_1 10 rfl rfl)
theorem dJ9_append_3_35 : decode cJ9_append_3 35 = .ok (.iadd, 1) := dk_96 (dk_at dksJ9_append_3_1 11 rfl rfl)
theorem dJ9_append_3_36 : decode cJ9_append_3 36 = .ok (.putfield 79, 3) := dk_181 0 79 (dk_at dksJ9_append_3_1 12 rfl rfl)
theorem dJ9_append_3_39 : decode cJ9_append_3 39 = .ok (.iload_n 1, 1) := dk_27 (dk_at dksJ9_append_3_1 15 rfl rfl)
theorem dJ9_append_3_40 : decode cJ9_append_3 40 = .ok (.i2b, 1) := dk_145 (dk_at dksJ9_append_3_1 16 rfl rfl)
theorem dJ9_append_3_41 : decode cJ9_append_3 41 = .ok (.bastore, 1) := dk_84 (dk_at dksJ9_append_3_1 17 rfl rfl)
theorem dJ9_append_3_42 : decode cJ9_append_3 42 = .ok (.goto 33, 3) := dk_167 0 33 (dk_at dksJ9_append_3_1 18 rfl rfl)
theorem dJ9_append_3_45 : decode cJ9_append_3 45 = .ok (.aload_n 0, 1) := dk_42 (dk_at dksJ9_append_3_1 21 rfl rfl)
theorem dJ9_append_3_46 : decode cJ9_append_3 46 = .ok (.invokevirtual 83, 3) := dk_182 0 83 (dk_at dksJ9_append_3_2 0 rfl rfl)
theorem dJ9_append_3_49 : decode cJ9_append_3 49 = .ok (.ifCond .eq 7, 3) := dk_153 0 7 (dk_at dksJ9_append_3_2 3 rfl rfl)
theorem dJ9_append_3_52 : decode cJ9_append_3 52 = .ok (.aload_n 0, 1) := dk_42 (dk_at dksJ9_append_3_2 6 rfl rfl)
theorem dJ9_append_3_53 : decode cJ9_append_3 53 = .ok (.invokevirtual 195, 3) := dk_182 0 195 (dk_at dksJ9_append_3_2 7 rfl rfl)
theorem dJ9_append_3_56 : decode cJ9_append_3 56 = .ok (.aload_n 0, 1) := dk_42 (dk_at dksJ9_append_3_2 10 rfl rfl)
theorem dJ9_append_3_57 : decode cJ9_append_3 57 = .ok (.getfield 15, 3) := dk_180 0 15 (dk_at dksJ9_append_3_2 11 rfl rfl)
theorem dJ9_append_3_60 : decode cJ9_append_3 60 = .ok (.aload_n 0, 1) := dk_42 (dk_at dksJ9_append_3_2 14 rfl rfl)
theorem dJ9_append_3_61 : decode cJ9_append_3 61 = .ok (.dup, 1) := dk_89 (dk_at dksJ9_append_3_2 15 rfl rfl)
theorem dJ9_append_3_62 : decode cJ9_append_3 62 = .ok (.getfield 79, 3) := dk_180 0 79 (dk_at dksJ9_append_3_2 16 rfl rfl)
theorem dJ9_append_3_65 : decode cJ9_append_3 65 = .ok (.dup_x1, 1) := dk_90 (dk_at dksJ9_append_3_2 19 rfl rfl)
theorem dJ9_append_3_66 : decode cJ9_append_3 66 = .ok (.iconst 1, 1) := dk_4 (dk_at dksJ9_append_3_2 20 rfl rfl)
theorem dJ9_append_3_67 : decode cJ9_append_3 67 = .ok (.iadd, 1) := dk_96 (dk_at dksJ9_append_3_2 21 rfl rfl)
theorem dJ9_append_3_68 : decode cJ9_append_3 68 = .ok (.putfield 79, 3) := dk_181 0 79 (dk_at dksJ9_append_3_3 0 rfl rfl)
theorem dJ9_append_3_71 : decode cJ9_append_3 71 = .ok (.iload_n 1, 1) := dk_27 (dk_at dksJ9_append_3_3 3 rfl rfl)
theorem dJ9_append_3_72 : decode cJ9_append_3 72 = .ok (.invokestatic 197, 3) := dk_184 0 197 (dk_at dksJ9_append_3_3 4 rfl rfl)
theorem dJ9_append_3_75 : decode cJ9_append_3 75 = .ok (.aload_n 0, 1) := dk_42 (dk_at dksJ9_append_3_3 7 rfl rfl)
theorem dJ9_append_3_76 : decode cJ9_append_3 76 = .ok (.areturn, 1) := dk_176 (dk_at dksJ9_append_3_3 8 rfl rfl)
theorem q85 : (Jvm.Cond.initialized "java/lang/AbstractStringBuilder") ∈ lw_all := lw_g (lw_at lw_m1 16 rfl) rfl
theorem q359 : (Jvm.Cond.instanceMethod ({ cls := "java/lang/AbstractStringBuilder", name := "<init>", desc := "(I)V" } : Jvm.MethodName)) ∈ lw_all := lw_g (lw_at lw_m2 50 rfl) rfl
theorem q360 : (Jvm.Cond.code ({ cls := "java/lang/AbstractStringBuilder", name := "<init>", desc := "(I)V" } : Jvm.MethodName) prog_15_method_2_code (2 : Nat) (Option.none : Option Jvm.ClassFile.FieldType)) ∈ lw_all := lw_g (lw_at lw_m2 51 rfl) rfl
theorem q361 : (Jvm.Cond.methodLink "java/lang/AbstractStringBuilder" (3 : Nat) ({ cls := "java/lang/Object", name := "<init>", desc := "()V" } : Jvm.MethodName)) ∈ lw_all := lw_g (lw_at lw_m2 52 rfl) rfl
theorem q362 : (Jvm.Cond.fieldLink "java/lang/AbstractStringBuilder" (18 : Nat) "java/lang/String" "COMPACT_STRINGS" "Z") ∈ lw_all := lw_g (lw_at lw_m2 53 rfl) rfl
theorem q364 : (Jvm.Cond.methodLink "java/lang/AbstractStringBuilder" (26 : Nat) ({ cls := "java/lang/StringUTF16", name := "newBytesFor", desc := "(I)[B" } : Jvm.MethodName)) ∈ lw_all := lw_g (lw_at lw_m2 55 rfl) rfl
theorem q371 : (Jvm.Cond.fieldLink "java/lang/AbstractStringBuilder" (15 : Nat) "java/lang/AbstractStringBuilder" "value" "[B") ∈ lw_all := lw_g (lw_at lw_m2 62 rfl) rfl
theorem q372 : (Jvm.Cond.fieldLink "java/lang/AbstractStringBuilder" (22 : Nat) "java/lang/AbstractStringBuilder" "coder" "B") ∈ lw_all := lw_g (lw_at lw_m2 63 rfl) rfl
theorem q373 : (Jvm.Cond.fieldLink "java/lang/AbstractStringBuilder" (73 : Nat) "java/lang/AbstractStringBuilder" "maybeLatin1" "Z") ∈ lw_all := lw_g (lw_at lw_m2 64 rfl) rfl
theorem q375 : (Jvm.Cond.fieldLink "java/lang/AbstractStringBuilder" (79 : Nat) "java/lang/AbstractStringBuilder" "count" "I") ∈ lw_all := lw_g (lw_at lw_m2 66 rfl) rfl
theorem q377 : (Jvm.Cond.soleField "java/lang/AbstractStringBuilder" "value") ∈ lw_all := lw_g (lw_at lw_m2 68 rfl) rfl
theorem q379 : (Jvm.Cond.soleField "java/lang/AbstractStringBuilder" "coder") ∈ lw_all := lw_g (lw_at lw_m2 70 rfl) rfl
theorem q381 : (Jvm.Cond.soleField "java/lang/AbstractStringBuilder" "maybeLatin1") ∈ lw_all := lw_g (lw_at lw_m2 72 rfl) rfl
theorem q383 : (Jvm.Cond.soleField "java/lang/AbstractStringBuilder" "count") ∈ lw_all := lw_g (lw_at lw_m2 74 rfl) rfl
theorem q445 : (Jvm.Cond.instanceMethod ({ cls := "java/lang/AbstractStringBuilder", name := "length", desc := "()I" } : Jvm.MethodName)) ∈ lw_all := lw_g (lw_at lw_m2 136 rfl) rfl
theorem q446 : (Jvm.Cond.code ({ cls := "java/lang/AbstractStringBuilder", name := "length", desc := "()I" } : Jvm.MethodName) prog_15_method_6_code (1 : Nat) (Option.some Jvm.ClassFile.FieldType.int)) ∈ lw_all := lw_g (lw_at lw_m2 137 rfl) rfl
theorem q452 : (Jvm.Cond.instanceMethod ({ cls := "java/lang/AbstractStringBuilder", name := "setLength", desc := "(I)V" } : Jvm.MethodName)) ∈ lw_all := lw_g (lw_at lw_m2 143 rfl) rfl
theorem q453 : (Jvm.Cond.code ({ cls := "java/lang/AbstractStringBuilder", name := "setLength", desc := "(I)V" } : Jvm.MethodName) prog_15_method_13_code (2 : Nat) (Option.none : Option Jvm.ClassFile.FieldType)) ∈ lw_all := lw_g (lw_at lw_m2 144 rfl) rfl
theorem q454 : (Jvm.Cond.classLink "java/lang/AbstractStringBuilder" (129 : Nat) "java/lang/StringIndexOutOfBoundsException") ∈ lw_all := lw_g (lw_at lw_m2 145 rfl) rfl
theorem q456 : (Jvm.Cond.methodLink "java/lang/AbstractStringBuilder" (131 : Nat) ({ cls := "java/lang/StringIndexOutOfBoundsException", name := "<init>", desc := "(I)V" } : Jvm.MethodName)) ∈ lw_all := lw_g (lw_at lw_m2 147 rfl) rfl
theorem q467 : (Jvm.Cond.instanceMethod ({ cls := "java/lang/AbstractStringBuilder", name := "append", desc := "(Ljava/lang/String;)Ljava/lang/AbstractStringBuilder;" } : Jvm.MethodName)) ∈ lw_all := lw_g (lw_at lw_m2 158 rfl) rfl
theorem q468 : (Jvm.Cond.code ({ cls := "java/lang/AbstractStringBuilder", name := "append", desc := "(Ljava/lang/String;)Ljava/lang/AbstractStringBuilder;" } : Jvm.MethodName) prog_15_method_22_code (3 : Nat) (Option.some (Jvm.ClassFile.FieldType.object "java/lang/AbstractStringBuilder"))) ∈ lw_all := lw_g (lw_at lw_m2 159 rfl) rfl
theorem q469 : (Jvm.Cond.methodLink "java/lang/AbstractStringBuilder" (204 : Nat) ({ cls := "java/lang/AbstractStringBuilder", name := "appendNull", desc := "()Ljava/lang/AbstractStringBuilder;" } : Jvm.MethodName)) ∈ lw_all := lw_g (lw_at lw_m2 160 rfl) rfl
theorem q470 : (Jvm.Cond.privateMethod ({ cls := "java/lang/AbstractStringBuilder", name := "appendNull", desc := "()Ljava/lang/AbstractStringBuilder;" } : Jvm.MethodName)) ∈ lw_tbl := lw_at lw_m2 161 rfl
theorem q471 : (Jvm.Cond.instanceMethod ({ cls := "java/lang/AbstractStringBuilder", name := "appendNull", desc := "()Ljava/lang/AbstractStringBuilder;" } : Jvm.MethodName)) ∈ lw_all := lw_g (lw_at lw_m2 162 rfl) rfl
theorem q472 : (Jvm.Cond.code ({ cls := "java/lang/AbstractStringBuilder", name := "appendNull", desc := "()Ljava/lang/AbstractStringBuilder;" } : Jvm.MethodName) prog_15_method_26_code (3 : Nat) (Option.some (Jvm.ClassFile.FieldType.object "java/lang/AbstractStringBuilder"))) ∈ lw_all := lw_g (lw_at lw_m2 163 rfl) rfl
theorem q473 : (Jvm.Cond.methodLink "java/lang/AbstractStringBuilder" (100 : Nat) ({ cls := "java/lang/AbstractStringBuilder", name := "ensureCapacityInternal", desc := "(I)V" } : Jvm.MethodName)) ∈ lw_all := lw_g (lw_at lw_m2 164 rfl) rfl
theorem q474 : (Jvm.Cond.privateMethod ({ cls := "java/lang/AbstractStringBuilder", name := "ensureCapacityInternal", desc := "(I)V" } : Jvm.MethodName)) ∈ lw_tbl := lw_at lw_m2 165 rfl
theorem q475 : (Jvm.Cond.instanceMethod ({ cls := "java/lang/AbstractStringBuilder", name := "ensureCapacityInternal", desc := "(I)V" } : Jvm.MethodName)) ∈ lw_all := lw_g (lw_at lw_m2 166 rfl) rfl
theorem q476 : (Jvm.Cond.code ({ cls := "java/lang/AbstractStringBuilder", name := "ensureCapacityInternal", desc := "(I)V" } : Jvm.MethodName) prog_15_method_9_code (3 : Nat) (Option.none : Option Jvm.ClassFile.FieldType)) ∈ lw_all := lw_g (lw_at lw_m2 167 rfl) rfl
theorem q477 : (Jvm.Cond.methodLink "java/lang/AbstractStringBuilder" (104 : Nat) ({ cls := "java/lang/AbstractStringBuilder", name := "newCapacity", desc := "(I)I" } : Jvm.MethodName)) ∈ lw_all := lw_g (lw_at lw_m2 168 rfl) rfl
theorem q478 : (Jvm.Cond.privateMethod ({ cls := "java/lang/AbstractStringBuilder", name := "newCapacity", desc := "(I)I" } : Jvm.MethodName)) ∈ lw_tbl := lw_at lw_m2 169 rfl
theorem q479 : (Jvm.Cond.instanceMethod ({ cls := "java/lang/AbstractStringBuilder", name := "newCapacity", desc := "(I)I" } : Jvm.MethodName)) ∈ lw_all := lw_g (lw_at lw_m2 170 rfl) rfl
theorem q480 : (Jvm.Cond.code ({ cls := "java/lang/AbstractStringBuilder", name := "newCapacity", desc := "(I)I" } : Jvm.MethodName) prog_15_method_10_code (6 : Nat) (Option.some Jvm.ClassFile.FieldType.int)) ∈ lw_all := lw_g (lw_at lw_m2 171 rfl) rfl
theorem q481 : (Jvm.Cond.methodLink "java/lang/AbstractStringBuilder" (114 : Nat) ({ cls := "jdk/internal/util/ArraysSupport", name := "newLength", desc := "(III)I" } : Jvm.MethodName)) ∈ lw_all := lw_g (lw_at lw_m2 172 rfl) rfl
theorem q491 : (Jvm.Cond.constant "java/lang/AbstractStringBuilder" (39 : Nat) (2147483647 : Int32)) ∈ lw_all := lw_g (lw_at lw_m2 182 rfl) rfl
theorem q492 : (Jvm.Cond.methodLink "java/lang/AbstractStringBuilder" (108 : Nat) ({ cls := "java/util/Arrays", name := "copyOf", desc := "([BI)[B" } : Jvm.MethodName)) ∈ lw_all := lw_g (lw_at lw_m2 183 rfl) rfl
theorem q508 : (Jvm.Cond.methodLink "java/lang/AbstractStringBuilder" (83 : Nat) ({ cls := "java/lang/AbstractStringBuilder", name := "isLatin1", desc := "()Z" } : Jvm.MethodName)) ∈ lw_all := lw_g (lw_at lw_m2 199 rfl) rfl
theorem q509 : (Jvm.Cond.instanceMethod ({ cls := "java/lang/AbstractStringBuilder", name := "isLatin1", desc := "()Z" } : Jvm.MethodName)) ∈ lw_all := lw_g (lw_at lw_m2 200 rfl) rfl
theorem q510 : (Jvm.Cond.sameMethod "java/lang/AbstractStringBuilder" "java/lang/AbstractStringBuilder" "isLatin1" "()Z") ∈ lw_all := lw_g (lw_at lw_m2 201 rfl) rfl
theorem q512 : (Jvm.Cond.code ({ cls := "java/lang/AbstractStringBuilder", name := "isLatin1", desc := "()Z" } : Jvm.MethodName) prog_15_method_68_code (1 : Nat) (Option.some Jvm.ClassFile.FieldType.boolean)) ∈ lw_all := lw_g (lw_at lw_m2 203 rfl) rfl
theorem q513 : (Jvm.Cond.methodLink "java/lang/AbstractStringBuilder" (226 : Nat) ({ cls := "java/lang/StringUTF16", name := "putCharsAt", desc := "([BICCCC)I" } : Jvm.MethodName)) ∈ lw_all := lw_g (lw_at lw_m2 204 rfl) rfl
theorem q539 : (Jvm.Cond.methodLink "java/lang/AbstractStringBuilder" (32 : Nat) ({ cls := "java/lang/String", name := "length", desc := "()I" } : Jvm.MethodName)) ∈ lw_all := lw_g (lw_at lw_m2 230 rfl) rfl
theorem q548 : (Jvm.Cond.methodLink "java/lang/AbstractStringBuilder" (208 : Nat) ({ cls := "java/lang/AbstractStringBuilder", name := "putStringAt", desc := "(ILjava/lang/String;)V" } : Jvm.MethodName)) ∈ lw_all := lw_g (lw_at lw_m2 239 rfl) rfl
theorem q549 : (Jvm.Cond.privateMethod ({ cls := "java/lang/AbstractStringBuilder", name := "putStringAt", desc := "(ILjava/lang/String;)V" } : Jvm.MethodName)) ∈ lw_tbl := lw_at lw_m3 0 rfl
theorem q550 : (Jvm.Cond.instanceMethod ({ cls := "java/lang/AbstractStringBuilder", name := "putStringAt", desc := "(ILjava/lang/String;)V" } : Jvm.MethodName)) ∈ lw_all := lw_g (lw_at lw_m3 1 rfl) rfl
theorem q551 : (Jvm.Cond.code ({ cls := "java/lang/AbstractStringBuilder", name := "putStringAt", desc := "(ILjava/lang/String;)V" } : Jvm.MethodName) prog_15_method_73_code (3 : Nat) (Option.none : Option Jvm.ClassFile.FieldType)) ∈ lw_all := lw_g (lw_at lw_m3 2 rfl) rfl
theorem q552 : (Jvm.Cond.methodLink "java/lang/AbstractStringBuilder" (397 : Nat) ({ cls := "java/lang/AbstractStringBuilder", name := "inflateIfNeededFor", desc := "(Ljava/lang/String;)V" } : Jvm.MethodName)) ∈ lw_all := lw_g (lw_at lw_m3 3 rfl) rfl
theorem q553 : (Jvm.Cond.privateMethod ({ cls := "java/lang/AbstractStringBuilder", name := "inflateIfNeededFor", desc := "(Ljava/lang/String;)V" } : Jvm.MethodName)) ∈ lw_tbl := lw_at lw_m3 4 rfl
theorem q554 : (Jvm.Cond.instanceMethod ({ cls := "java/lang/AbstractStringBuilder", name := "inflateIfNeededFor", desc := "(Ljava/lang/String;)V" } : Jvm.MethodName)) ∈ lw_all := lw_g (lw_at lw_m3 5 rfl) rfl
theorem q555 : (Jvm.Cond.code ({ cls := "java/lang/AbstractStringBuilder", name := "inflateIfNeededFor", desc := "(Ljava/lang/String;)V" } : Jvm.MethodName) prog_15_method_71_code (2 : Nat) (Option.none : Option Jvm.ClassFile.FieldType)) ∈ lw_all := lw_g (lw_at lw_m3 6 rfl) rfl
theorem q556 : (Jvm.Cond.methodLink "java/lang/AbstractStringBuilder" (40 : Nat) ({ cls := "java/lang/String", name := "coder", desc := "()B" } : Jvm.MethodName)) ∈ lw_all := lw_g (lw_at lw_m3 7 rfl) rfl
theorem q557 : (Jvm.Cond.methodLink "java/lang/AbstractStringBuilder" (195 : Nat) ({ cls := "java/lang/AbstractStringBuilder", name := "inflate", desc := "()V" } : Jvm.MethodName)) ∈ lw_all := lw_g (lw_at lw_m3 8 rfl) rfl
theorem q558 : (Jvm.Cond.privateMethod ({ cls := "java/lang/AbstractStringBuilder", name := "inflate", desc := "()V" } : Jvm.MethodName)) ∈ lw_tbl := lw_at lw_m3 9 rfl
theorem q559 : (Jvm.Cond.instanceMethod ({ cls := "java/lang/AbstractStringBuilder", name := "inflate", desc := "()V" } : Jvm.MethodName)) ∈ lw_all := lw_g (lw_at lw_m3 10 rfl) rfl
theorem q560 : (Jvm.Cond.code ({ cls := "java/lang/AbstractStringBuilder", name := "inflate", desc := "()V" } : Jvm.MethodName) prog_15_method_11_code (2 : Nat) (Option.none : Option Jvm.ClassFile.FieldType)) ∈ lw_all := lw_g (lw_at lw_m3 11 rfl) rfl
theorem q561 : (Jvm.Cond.methodLink "java/lang/AbstractStringBuilder" (125 : Nat) ({ cls := "java/lang/StringLatin1", name := "inflate", desc := "([BI[BII)V" } : Jvm.MethodName)) ∈ lw_all := lw_g (lw_at lw_m3 12 rfl) rfl
theorem q576 : (Jvm.Cond.methodLink "java/lang/AbstractStringBuilder" (399 : Nat) ({ cls := "java/lang/String", name := "getBytes", desc := "([BIB)V" } : Jvm.MethodName)) ∈ lw_all := lw_g (lw_at lw_m3 27 rfl) rfl
theorem q587 : (Jvm.Cond.instanceMethod ({ cls := "java/lang/AbstractStringBuilder", name := "append", desc := "(I)Ljava/lang/AbstractStringBuilder;" } : Jvm.MethodName)) ∈ lw_all := lw_g (lw_at lw_m3 38 rfl) rfl
theorem q588 : (Jvm.Cond.code ({ cls := "java/lang/AbstractStringBuilder", name := "append", desc := "(I)Ljava/lang/AbstractStringBuilder;" } : Jvm.MethodName) prog_15_method_32_code (4 : Nat) (Option.some (Jvm.ClassFile.FieldType.object "java/lang/AbstractStringBuilder"))) ∈ lw_all := lw_g (lw_at lw_m3 39 rfl) rfl
theorem q589 : (Jvm.Cond.methodLink "java/lang/AbstractStringBuilder" (245 : Nat) ({ cls := "java/lang/Integer", name := "stringSize", desc := "(I)I" } : Jvm.MethodName)) ∈ lw_all := lw_g (lw_at lw_m3 40 rfl) rfl
theorem q592 : (Jvm.Cond.methodLink "java/lang/AbstractStringBuilder" (248 : Nat) ({ cls := "java/lang/Integer", name := "getChars", desc := "(II[B)I" } : Jvm.MethodName)) ∈ lw_all := lw_g (lw_at lw_m3 43 rfl) rfl
theorem q599 : (Jvm.Cond.methodLink "java/lang/AbstractStringBuilder" (251 : Nat) ({ cls := "java/lang/StringUTF16", name := "getChars", desc := "(III[B)I" } : Jvm.MethodName)) ∈ lw_all := lw_g (lw_at lw_m3 50 rfl) rfl
theorem q620 : (Jvm.Cond.instanceMethod ({ cls := "java/lang/AbstractStringBuilder", name := "getValue", desc := "()[B" } : Jvm.MethodName)) ∈ lw_all := lw_g (lw_at lw_m3 71 rfl) rfl
theorem q621 : (Jvm.Cond.sameMethod "java/lang/AbstractStringBuilder" "java/lang/AbstractStringBuilder" "getValue" "()[B") ∈ lw_all := lw_g (lw_at lw_m3 72 rfl) rfl
theorem q623 : (Jvm.Cond.code ({ cls := "java/lang/AbstractStringBuilder", name := "getValue", desc := "()[B" } : Jvm.MethodName) prog_15_method_64_code (1 : Nat) (Option.some (Jvm.ClassFile.FieldType.array Jvm.ClassFile.FieldType.byte))) ∈ lw_all := lw_g (lw_at lw_m3 74 rfl) rfl
theorem q687 : (Jvm.Cond.methodLink "java/lang/AbstractStringBuilder" (133 : Nat) ({ cls := "java/lang/StringLatin1", name := "fillNull", desc := "([BII)V" } : Jvm.MethodName)) ∈ lw_all := lw_g (lw_at lw_m3 138 rfl) rfl
theorem q722 : (Jvm.Cond.methodLink "java/lang/AbstractStringBuilder" (137 : Nat) ({ cls := "java/lang/StringUTF16", name := "fillNull", desc := "([BII)V" } : Jvm.MethodName)) ∈ lw_all := lw_g (lw_at lw_m3 173 rfl) rfl
theorem q773 : (Jvm.Cond.instanceMethod ({ cls := "java/lang/AbstractStringBuilder", name := "charAt", desc := "(I)C" } : Jvm.MethodName)) ∈ lw_all := lw_g (lw_at lw_m3 224 rfl) rfl
theorem q774 : (Jvm.Cond.code ({ cls := "java/lang/AbstractStringBuilder", name := "charAt", desc := "(I)C" } : Jvm.MethodName) prog_15_method_14_code (5 : Nat) (Option.some Jvm.ClassFile.FieldType.char)) ∈ lw_all := lw_g (lw_at lw_m3 225 rfl) rfl
theorem q775 : (Jvm.Cond.methodLink "java/lang/AbstractStringBuilder" (138 : Nat) ({ cls := "java/lang/Math", name := "min", desc := "(II)I" } : Jvm.MethodName)) ∈ lw_all := lw_g (lw_at lw_m3 226 rfl) rfl
theorem q776 : (Jvm.Cond.methodLink "java/lang/AbstractStringBuilder" (144 : Nat) ({ cls := "java/lang/String", name := "checkIndex", desc := "(II)V" } : Jvm.MethodName)) ∈ lw_all := lw_g (lw_at lw_m3 227 rfl) rfl
theorem q782 : (Jvm.Cond.methodLink "java/lang/AbstractStringBuilder" (148 : Nat) ({ cls := "java/lang/StringUTF16", name := "getChar", desc := "([BI)C" } : Jvm.MethodName)) ∈ lw_all := lw_g (lw_at lw_m3 233 rfl) rfl
theorem q1658 : (Jvm.Cond.instanceMethod ({ cls := "java/lang/AbstractStringBuilder", name := "append", desc := "(C)Ljava/lang/AbstractStringBuilder;" } : Jvm.MethodName)) ∈ lw_all := lw_g (lw_at lw_m7 149 rfl) rfl
theorem q1659 : (Jvm.Cond.code ({ cls := "java/lang/AbstractStringBuilder", name := "append", desc := "(C)Ljava/lang/AbstractStringBuilder;" } : Jvm.MethodName) prog_15_method_31_code (2 : Nat) (Option.some (Jvm.ClassFile.FieldType.object "java/lang/AbstractStringBuilder"))) ∈ lw_all := lw_g (lw_at lw_m7 150 rfl) rfl
theorem q1660 : (Jvm.Cond.methodLink "java/lang/AbstractStringBuilder" (191 : Nat) ({ cls := "java/lang/StringLatin1", name := "canEncode", desc := "(C)Z" } : Jvm.MethodName)) ∈ lw_all := lw_g (lw_at lw_m7 151 rfl) rfl
theorem q1663 : (Jvm.Cond.methodLink "java/lang/AbstractStringBuilder" (197 : Nat) ({ cls := "java/lang/StringUTF16", name := "putCharSB", desc := "([BII)V" } : Jvm.MethodName)) ∈ lw_all := lw_g (lw_at lw_m7 154 rfl) rfl
theorem q2147 : (Jvm.Cond.sameMethod "java/lang/AbstractStringBuilder" "java/lang/AbstractStringBuilder" "length" "()I") ∈ lw_all := lw_g (lw_at lw_m9 158 rfl) rfl
theorem q2148 : (Jvm.Cond.sameMethod "java/lang/AbstractStringBuilder" "java/lang/AbstractStringBuilder" "setLength" "(I)V") ∈ lw_all := lw_g (lw_at lw_m9 159 rfl) rfl
theorem q2149 : (Jvm.Cond.sameMethod "java/lang/AbstractStringBuilder" "java/lang/AbstractStringBuilder" "append" "(Ljava/lang/String;)Ljava/lang/AbstractStringBuilder;") ∈ lw_all := lw_g (lw_at lw_m9 160 rfl) rfl
theorem q2150 : (Jvm.Cond.sameMethod "java/lang/AbstractStringBuilder" "java/lang/AbstractStringBuilder" "appendNull" "()Ljava/lang/AbstractStringBuilder;") ∈ lw_all := lw_g (lw_at lw_m9 161 rfl) rfl
theorem q2151 : (Jvm.Cond.sameMethod "java/lang/AbstractStringBuilder" "java/lang/AbstractStringBuilder" "ensureCapacityInternal" "(I)V") ∈ lw_all := lw_g (lw_at lw_m9 162 rfl) rfl
theorem q2152 : (Jvm.Cond.sameMethod "java/lang/AbstractStringBuilder" "java/lang/AbstractStringBuilder" "newCapacity" "(I)I") ∈ lw_all := lw_g (lw_at lw_m9 163 rfl) rfl
theorem q2153 : (Jvm.Cond.sameMethod "java/lang/AbstractStringBuilder" "java/lang/AbstractStringBuilder" "putStringAt" "(ILjava/lang/String;)V") ∈ lw_all := lw_g (lw_at lw_m9 164 rfl) rfl
theorem q2154 : (Jvm.Cond.sameMethod "java/lang/AbstractStringBuilder" "java/lang/AbstractStringBuilder" "inflateIfNeededFor" "(Ljava/lang/String;)V") ∈ lw_all := lw_g (lw_at lw_m9 165 rfl) rfl
theorem q2155 : (Jvm.Cond.sameMethod "java/lang/AbstractStringBuilder" "java/lang/AbstractStringBuilder" "inflate" "()V") ∈ lw_all := lw_g (lw_at lw_m9 166 rfl) rfl
theorem q2156 : (Jvm.Cond.sameMethod "java/lang/AbstractStringBuilder" "java/lang/AbstractStringBuilder" "append" "(I)Ljava/lang/AbstractStringBuilder;") ∈ lw_all := lw_g (lw_at lw_m9 167 rfl) rfl
theorem q2158 : (Jvm.Cond.sameMethod "java/lang/AbstractStringBuilder" "java/lang/AbstractStringBuilder" "charAt" "(I)C") ∈ lw_all := lw_g (lw_at lw_m9 169 rfl) rfl
theorem q2162 : (Jvm.Cond.sameMethod "java/lang/AbstractStringBuilder" "java/lang/AbstractStringBuilder" "append" "(C)Ljava/lang/AbstractStringBuilder;") ∈ lw_all := lw_g (lw_at lw_m9 173 rfl) rfl
