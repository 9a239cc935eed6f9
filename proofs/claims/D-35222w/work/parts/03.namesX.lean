/-! TrunkYards -/
set_option maxRecDepth 100000
def RX1 : String := "TrunkYards"
def TX1 : u_T := fun k => match k with
  | 0 => ("TrunkYards", "tracks", "Ljava/util/ArrayList;", true)
  | 1 => ("TrunkYards", "all", "Ljava/util/ArrayList;", true)
  | 2 => ("TrunkYards", "follows", "[[Z", true)
  | 3 => ("TrunkYards", "trunks", "Ljava/util/LinkedHashMap;", true)
  | 4 => ("TrunkYards", "lines", "[I", true)
  | 5 => ("TrunkYards", "calls", "Ljava/util/ArrayList;", true)
  | 6 => ("TrunkYards", "booked", "Ljava/util/ArrayList;", true)
  | 7 => ("TrunkYards", "sent", "Ljava/util/ArrayList;", true)
  | 8 => ("TrunkYards", "events", "Ljava/util/ArrayList;", true)
  | 9 => ("TrunkYards", "refused", "I", false)
  | _ => ("TrunkYards", "now", "I", false)
def tyX1 : Nat → FieldType := fun k => match k with
  | 0 => .object "java/util/ArrayList"
  | 1 => .object "java/util/ArrayList"
  | 2 => .array (.array .boolean)
  | 3 => .object "java/util/LinkedHashMap"
  | 4 => .array .int
  | 5 => .object "java/util/ArrayList"
  | 6 => .object "java/util/ArrayList"
  | 7 => .object "java/util/ArrayList"
  | 8 => .object "java/util/ArrayList"
  | 9 => .int
  | _ => .int
abbrev wsX10 : List Cond := u_ws RX1 TX1 11
theorem nmX1 : ∀ a, a < 11 → ∀ b, b < 11 → a ≠ b → (TX1 a).2.1 ≠ (TX1 b).2.1 := by decide +kernel
theorem tyX1_ok : ∀ k, k < 11 → parseFieldDescriptor (TX1 k).2.2.1 = some (tyX1 k) := by decide +kernel
abbrev cX1_init : ByteArray := prog_1_method_1_code
def yX1_init : MethodName := ⟨RX1, "<init>", "()V"⟩
def dkwX1_init_8 : List UInt8 := [182, 0, 62, 192, 0, 66, 78, 132, 2, 1, 167, 255, 204, 132, 1, 1, 167, 255, 154, 177]
abbrev dktX1_init_8 : List UInt8 := dkwX1_init_8 ++ []
def dkwX1_init_7 : List UInt8 := [189, 0, 59, 89, 3, 187, 0, 59, 89, 183, 0, 61, 83, 89, 4, 187, 0, 59, 89, 183, 0, 61, 83]
abbrev dktX1_init_7 : List UInt8 := dkwX1_init_7 ++ dktX1_init_8
def dkwX1_init_6 : List UInt8 := [27, 4, 96, 61, 28, 6, 162, 0, 53, 42, 180, 0, 27, 187, 0, 54, 89, 27, 28, 183, 0, 56, 5]
abbrev dktX1_init_6 : List UInt8 := dkwX1_init_6 ++ dktX1_init_7
def dkwX1_init_5 : List UInt8 := [162, 0, 24, 42, 180, 0, 10, 187, 0, 47, 89, 183, 0, 49, 182, 0, 50, 87, 132, 2, 1, 167, 255, 233]
abbrev dktX1_init_5 : List UInt8 := dkwX1_init_5 ++ dktX1_init_6
def dkwX1_init_4 : List UInt8 := [183, 0, 9, 181, 0, 44, 3, 60, 27, 6, 162, 0, 103, 42, 180, 0, 31, 27, 4, 79, 3, 61, 28, 8]
abbrev dktX1_init_4 : List UInt8 := dkwX1_init_4 ++ dktX1_init_5
def dkwX1_init_3 : List UInt8 := [183, 0, 9, 181, 0, 38, 42, 187, 0, 7, 89, 183, 0, 9, 181, 0, 41, 42, 187, 0, 7, 89]
abbrev dktX1_init_3 : List UInt8 := dkwX1_init_3 ++ dktX1_init_4
def dkwX1_init_2 : List UInt8 := [42, 6, 188, 10, 181, 0, 31, 42, 187, 0, 7, 89, 183, 0, 9, 181, 0, 35, 42, 187, 0, 7, 89]
abbrev dktX1_init_2 : List UInt8 := dkwX1_init_2 ++ dktX1_init_3
def dkwX1_init_1 : List UInt8 := [181, 0, 16, 42, 7, 7, 197, 0, 19, 2, 181, 0, 21, 42, 187, 0, 24, 89, 183, 0, 26, 181, 0, 27]
abbrev dktX1_init_1 : List UInt8 := dkwX1_init_1 ++ dktX1_init_2
def dkwX1_init_0 : List UInt8 := [42, 183, 0, 1, 42, 187, 0, 7, 89, 183, 0, 9, 181, 0, 10, 42, 187, 0, 7, 89, 183, 0, 9]
abbrev dktX1_init_0 : List UInt8 := dkwX1_init_0 ++ dktX1_init_1
theorem dksX1_init_0 : cX1_init.data.toList.drop 0 = dktX1_init_0 := by decide +kernel
theorem dksX1_init_1 : cX1_init.data.toList.drop 23 = dktX1_init_1 := dk_seg dksX1_init_0 23 rfl rfl
theorem dksX1_init_2 : cX1_init.data.toList.drop 47 = dktX1_init_2 := dk_seg dksX1_init_1 24 rfl rfl
theorem dksX1_init_3 : cX1_init.data.toList.drop 70 = dktX1_init_3 := dk_seg dksX1_init_2 23 rfl rfl
theorem dksX1_init_4 : cX1_init.data.toList.drop 92 = dktX1_init_4 := dk_seg dksX1_init_3 22 rfl rfl
theorem dksX1_init_5 : cX1_init.data.toList.drop 116 = dktX1_init_5 := dk_seg dksX1_init_4 24 rfl rfl
theorem dksX1_init_6 : cX1_init.data.toList.drop 140 = dktX1_init_6 := dk_seg dksX1_init_5 24 rfl rfl
theorem dksX1_init_7 : cX1_init.data.toList.drop 163 = dktX1_init_7 := dk_seg dksX1_init_6 23 rfl rfl
theorem dksX1_init_8 : cX1_init.data.toList.drop 186 = dktX1_init_8 := dk_seg dksX1_init_7 23 rfl rfl
theorem dX1_init_0 : decode cX1_init 0 = .ok (.aload_n 0, 1) := dk_42 (dk_at dksX1_init_0 0 rfl rfl)
theorem dX1_init_1 : decode cX1_init 1 = .ok (.invokespecial 1, 3) := dk_183 0 1 (dk_at dksX1_init_0 1 rfl rfl)
theorem dX1_init_4 : decode cX1_init 4 = .ok (.aload_n 0, 1) := dk_42 (dk_at dksX1_init_0 4 rfl rfl)
theorem dX1_init_5 : decode cX1_init 5 = .ok (.new 7, 3) := dk_187 0 7 (dk_at dksX1_init_0 5 rfl rfl)
theorem dX1_init_8 : decode cX1_init 8 = .ok (.dup, 1) := dk_89 (dk_at dksX1_init_0 8 rfl rfl)
theorem dX1_init_9 : decode cX1_init 9 = .ok (.invokespecial 9, 3) := dk_183 0 9 (dk_at dksX1_init_0 9 rfl rfl)
theorem dX1_init_12 : decode cX1_init 12 = .ok (.putfield 10, 3) := dk_181 0 10 (dk_at dksX1_init_0 12 rfl rfl)
theorem dX1_init_15 : decode cX1_init 15 = .ok (.aload_n 0, 1) := dk_42 (dk_at dksX1_init_0 15 rfl rfl)
theorem dX1_init_16 : decode cX1_init 16 = .ok (.new 7, 3) := dk_187 0 7 (dk_at dksX1_init_0 16 rfl rfl)
theorem dX1_init_19 : decode cX1_init 19 = .ok (.dup, 1) := dk_89 (dk_at dksX1_init_0 19 rfl rfl)
theorem dX1_init_20 : decode cX1_init 20 = .ok (.invokespecial 9, 3) := dk_183 0 9 (dk_at dksX1_init_0 20 rfl rfl)
theorem dX1_init_23 : decode cX1_init 23 = .ok (.putfield 16, 3) := dk_181 0 16 (dk_at dksX1_init_1 0 rfl rfl)
theorem dX1_init_26 : decode cX1_init 26 = .ok (.aload_n 0, 1) := dk_42 (dk_at dksX1_init_1 3 rfl rfl)
theorem dX1_init_27 : decode cX1_init 27 = .ok (.iconst 4, 1) := dk_7 (dk_at dksX1_init_1 4 rfl rfl)
theorem dX1_init_28 : decode cX1_init 28 = .ok (.iconst 4, 1) := dk_7 (dk_at dksX1_init_1 5 rfl rfl)
theorem dX1_init_29 : decode cX1_init 29 = .ok (.multianewarray 19 2, 4) := by decide +kernel
theorem dX1_init_33 : decode cX1_init 33 = .ok (.putfield 21, 3) := dk_181 0 21 (dk_at dksX1_init_1 10 rfl rfl)
theorem dX1_init_36 : decode cX1_init 36 = .ok (.aload_n 0, 1) := dk_42 (dk_at dksX1_init_1 13 rfl rfl)
theorem dX1_init_37 : decode cX1_init 37 = .ok (.new 24, 3) := dk_187 0 24 (dk_at dksX1_init_1 14 rfl rfl)
theorem dX1_init_40 : decode cX1_init 40 = .ok (.dup, 1) := dk_89 (dk_at dksX1_init_1 17 rfl rfl)
theorem dX1_init_41 : decode cX1_init 41 = .ok (.invokespecial 26, 3) := dk_183 0 26 (dk_at dksX1_init_1 18 rfl rfl)
theorem dX1_init_44 : decode cX1_init 44 = .ok (.putfield 27, 3) := dk_181 0 27 (dk_at dksX1_init_1 21 rfl rfl)
theorem dX1_init_47 : decode cX1_init 47 = .ok (.aload_n 0, 1) := dk_42 (dk_at dksX1_init_2 0 rfl rfl)
theorem dX1_init_48 : decode cX1_init 48 = .ok (.iconst 3, 1) := dk_6 (dk_at dksX1_init_2 1 rfl rfl)
theorem dX1_init_49 : decode cX1_init 49 = .ok (.newarray .int, 2) := dk_188_10 (dk_at dksX1_init_2 2 rfl rfl)
theorem dX1_init_51 : decode cX1_init 51 = .ok (.putfield 31, 3) := dk_181 0 31 (dk_at dksX1_init_2 4 rfl rfl)
theorem dX1_init_54 : decode cX1_init 54 = .ok (.aload_n 0, 1) := dk_42 (dk_at dksX1_init_2 7 rfl rfl)
theorem dX1_init_55 : decode cX1_init 55 = .ok (.new 7, 3) := dk_187 0 7 (dk_at dksX1_init_2 8 rfl rfl)
theorem dX1_init_58 : decode cX1_init 58 = .ok (.dup, 1) := dk_89 (dk_at dksX1_init_2 11 rfl rfl)
theorem dX1_init_59 : decode cX1_init 59 = .ok (.invokespecial 9, 3) := dk_183 0 9 (dk_at dksX1_init_2 12 rfl rfl)
theorem dX1_init_62 : decode cX1_init 62 = .ok (.putfield 35, 3) := dk_181 0 35 (dk_at dksX1_init_2 15 rfl rfl)
theorem dX1_init_65 : decode cX1_init 65 = .ok (.aload_n 0, 1) := dk_42 (dk_at dksX1_init_2 18 rfl rfl)
theorem dX1_init_66 : decode cX1_init 66 = .ok (.new 7, 3) := dk_187 0 7 (dk_at dksX1_init_2 19 rfl rfl)
theorem dX1_init_69 : decode cX1_init 69 = .ok (.dup, 1) := dk_89 (dk_at dksX1_init_2 22 rfl rfl)
theorem dX1_init_70 : decode cX1_init 70 = .ok (.invokespecial 9, 3) := dk_183 0 9 (dk_at dksX1_init_3 0 rfl rfl)
theorem dX1_init_73 : decode cX1_init 73 = .ok (.putfield 38, 3) := dk_181 0 38 (dk_at dksX1_init_3 3 rfl rfl)
theorem dX1_init_76 : decode cX1_init 76 = .ok (.aload_n 0, 1) := dk_42 (dk_at dksX1_init_3 6 rfl rfl)
theorem dX1_init_77 : decode cX1_init 77 = .ok (.new 7, 3) := dk_187 0 7 (dk_at dksX1_init_3 7 rfl rfl)
theorem dX1_init_80 : decode cX1_init 80 = .ok (.dup, 1) := dk_89 (dk_at dksX1_init_3 10 rfl rfl)
theorem dX1_init_81 : decode cX1_init 81 = .ok (.invokespecial 9, 3) := dk_183 0 9 (dk_at dksX1_init_3 11 rfl rfl)
theorem dX1_init_84 : decode cX1_init 84 = .ok (.putfield 41, 3) := dk_181 0 41 (dk_at dksX1_init_3 14 rfl rfl)
theorem dX1_init_87 : decode cX1_init 87 = .ok (.aload_n 0, 1) := dk_42 (dk_at dksX1_init_3 17 rfl rfl)
theorem dX1_init_88 : decode cX1_init 88 = .ok (.new 7, 3) := dk_187 0 7 (dk_at dksX1_init_3 18 rfl rfl)
theorem dX1_init_91 : decode cX1_init 91 = .ok (.dup, 1) := dk_89 (dk_at dksX1_init_3 21 rfl rfl)
theorem dX1_init_92 : decode cX1_init 92 = .ok (.invokespecial 9, 3) := dk_183 0 9 (dk_at dksX1_init_4 0 rfl rfl)
theorem dX1_init_95 : decode cX1_init 95 = .ok (.putfield 44, 3) := dk_181 0 44 (dk_at dksX1_init_4 3 rfl rfl)
theorem dX1_init_98 : decode cX1_init 98 = .ok (.iconst 0, 1) := dk_3 (dk_at dksX1_init_4 6 rfl rfl)
theorem dX1_init_99 : decode cX1_init 99 = .ok (.istore_n 1, 1) := dk_60 (dk_at dksX1_init_4 7 rfl rfl)
theorem dX1_init_100 : decode cX1_init 100 = .ok (.iload_n 1, 1) := dk_27 (dk_at dksX1_init_4 8 rfl rfl)
theorem dX1_init_101 : decode cX1_init 101 = .ok (.iconst 3, 1) := dk_6 (dk_at dksX1_init_4 9 rfl rfl)
theorem dX1_init_102 : decode cX1_init 102 = .ok (.if_icmp .ge 103, 3) := dk_162 0 103 (dk_at dksX1_init_4 10 rfl rfl)
theorem dX1_init_105 : decode cX1_init 105 = .ok (.aload_n 0, 1) := dk_42 (dk_at dksX1_init_4 13 rfl rfl)
theorem dX1_init_106 : decode cX1_init 106 = .ok (.getfield 31, 3) := dk_180 0 31 (dk_at dksX1_init_4 14 rfl rfl)
theorem dX1_init_109 : decode cX1_init 109 = .ok (.iload_n 1, 1) := dk_27 (dk_at dksX1_init_4 17 rfl rfl)
theorem dX1_init_110 : decode cX1_init 110 = .ok (.iconst 1, 1) := dk_4 (dk_at dksX1_init_4 18 rfl rfl)
theorem dX1_init_111 : decode cX1_init 111 = .ok (.iastore, 1) := dk_79 (dk_at dksX1_init_4 19 rfl rfl)
theorem dX1_init_112 : decode cX1_init 112 = .ok (.iconst 0, 1) := dk_3 (dk_at dksX1_init_4 20 rfl rfl)
theorem dX1_init_113 : decode cX1_init 113 = .ok (.istore_n 2, 1) := dk_61 (dk_at dksX1_init_4 21 rfl rfl)
theorem dX1_init_114 : decode cX1_init 114 = .ok (.iload_n 2, 1) := dk_28 (dk_at dksX1_init_4 22 rfl rfl)
theorem dX1_init_115 : decode cX1_init 115 = .ok (.iconst 5, 1) := dk_8 (dk_at dksX1_init_4 23 rfl rfl)
theorem dX1_init_116 : decode cX1_init 116 = .ok (.if_icmp .ge 24, 3) := dk_162 0 24 (dk_at dksX1_init_5 0 rfl rfl)
theorem dX1_init_119 : decode cX1_init 119 = .ok (.aload_n 0, 1) := dk_42 (dk_at dksX1_init_5 3 rfl rfl)
theorem dX1_init_120 : decode cX1_init 120 = .ok (.getfield 10, 3) := dk_180 0 10 (dk_at dksX1_init_5 4 rfl rfl)
theorem dX1_init_123 : decode cX1_init 123 = .ok (.new 47, 3) := dk_187 0 47 (dk_at dksX1_init_5 7 rfl rfl)
theorem dX1_init_126 : decode cX1_init 126 = .ok (.dup, 1) := dk_89 (dk_at dksX1_init_5 10 rfl rfl)
theorem dX1_init_127 : decode cX1_init 127 = .ok (.invokespecial 49, 3) := dk_183 0 49 (dk_at dksX1_init_5 11 rfl rfl)
theorem dX1_init_130 : decode cX1_init 130 = .ok (.invokevirtual 50, 3) := dk_182 0 50 (dk_at dksX1_init_5 14 rfl rfl)
theorem dX1_init_133 : decode cX1_init 133 = .ok (.pop, 1) := dk_87 (dk_at dksX1_init_5 17 rfl rfl)
theorem dX1_init_134 : decode cX1_init 134 = .ok (.iinc 2 1, 3) := dk_132 2 1 (dk_at dksX1_init_5 18 rfl rfl)
theorem dX1_init_137 : decode cX1_init 137 = .ok (.goto (-23), 3) := dk_167 255 233 (dk_at dksX1_init_5 21 rfl rfl)
theorem dX1_init_140 : decode cX1_init 140 = .ok (.iload_n 1, 1) := dk_27 (dk_at dksX1_init_6 0 rfl rfl)
theorem dX1_init_141 : decode cX1_init 141 = .ok (.iconst 1, 1) := dk_4 (dk_at dksX1_init_6 1 rfl rfl)
theorem dX1_init_142 : decode cX1_init 142 = .ok (.iadd, 1) := dk_96 (dk_at dksX1_init_6 2 rfl rfl)
theorem dX1_init_143 : decode cX1_init 143 = .ok (.istore_n 2, 1) := dk_61 (dk_at dksX1_init_6 3 rfl rfl)
theorem dX1_init_144 : decode cX1_init 144 = .ok (.iload_n 2, 1) := dk_28 (dk_at dksX1_init_6 4 rfl rfl)
theorem dX1_init_145 : decode cX1_init 145 = .ok (.iconst 3, 1) := dk_6 (dk_at dksX1_init_6 5 rfl rfl)
theorem dX1_init_146 : decode cX1_init 146 = .ok (.if_icmp .ge 53, 3) := dk_162 0 53 (dk_at dksX1_init_6 6 rfl rfl)
theorem dX1_init_149 : decode cX1_init 149 = .ok (.aload_n 0, 1) := dk_42 (dk_at dksX1_init_6 9 rfl rfl)
theorem dX1_init_150 : decode cX1_init 150 = .ok (.getfield 27, 3) := dk_180 0 27 (dk_at dksX1_init_6 10 rfl rfl)
theorem dX1_init_153 : decode cX1_init 153 = .ok (.new 54, 3) := dk_187 0 54 (dk_at dksX1_init_6 13 rfl rfl)
theorem dX1_init_156 : decode cX1_init 156 = .ok (.dup, 1) := dk_89 (dk_at dksX1_init_6 16 rfl rfl)
theorem dX1_init_157 : decode cX1_init 157 = .ok (.iload_n 1, 1) := dk_27 (dk_at dksX1_init_6 17 rfl rfl)
theorem dX1_init_158 : decode cX1_init 158 = .ok (.iload_n 2, 1) := dk_28 (dk_at dksX1_init_6 18 rfl rfl)
theorem dX1_init_159 : decode cX1_init 159 = .ok (.invokespecial 56, 3) := dk_183 0 56 (dk_at dksX1_init_6 19 rfl rfl)
theorem dX1_init_162 : decode cX1_init 162 = .ok (.iconst 2, 1) := dk_5 (dk_at dksX1_init_6 22 rfl rfl)
theorem dX1_init_163 : decode cX1_init 163 = .ok (.anewarray 59, 3) := dk_189 0 59 (dk_at dksX1_init_7 0 rfl rfl)
theorem dX1_init_166 : decode cX1_init 166 = .ok (.dup, 1) := dk_89 (dk_at dksX1_init_7 3 rfl rfl)
theorem dX1_init_167 : decode cX1_init 167 = .ok (.iconst 0, 1) := dk_3 (dk_at dksX1_init_7 4 rfl rfl)
theorem dX1_init_168 : decode cX1_init 168 = .ok (.new 59, 3) := dk_187 0 59 (dk_at dksX1_init_7 5 rfl rfl)
theorem dX1_init_171 : decode cX1_init 171 = .ok (.dup, 1) := dk_89 (dk_at dksX1_init_7 8 rfl rfl)
theorem dX1_init_172 : decode cX1_init 172 = .ok (.invokespecial 61, 3) := dk_183 0 61 (dk_at dksX1_init_7 9 rfl rfl)
theorem dX1_init_175 : decode cX1_init 175 = .ok (.aastore, 1) := dk_83 (dk_at dksX1_init_7 12 rfl rfl)
theorem dX1_init_176 : decode cX1_init 176 = .ok (.dup, 1) := dk_89 (dk_at dksX1_init_7 13 rfl rfl)
theorem dX1_init_177 : decode cX1_init 177 = .ok (.iconst 1, 1) := dk_4 (dk_at dksX1_init_7 14 rfl rfl)
theorem dX1_init_178 : decode cX1_init 178 = .ok (.new 59, 3) := dk_187 0 59 (dk_at dksX1_init_7 15 rfl rfl)
theorem dX1_init_181 : decode cX1_init 181 = .ok (.dup, 1) := dk_89 (dk_at dksX1_init_7 18 rfl rfl)
theorem dX1_init_182 : decode cX1_init 182 = .ok (.invokespecial 61, 3) := dk_183 0 61 (dk_at dksX1_init_7 19 rfl rfl)
theorem dX1_init_185 : decode cX1_init 185 = .ok (.aastore, 1) := dk_83 (dk_at dksX1_init_7 22 rfl rfl)
theorem dX1_init_186 : decode cX1_init 186 = .ok (.invokevirtual 62, 3) := dk_182 0 62 (dk_at dksX1_init_8 0 rfl rfl)
theorem dX1_init_189 : decode cX1_init 189 = .ok (.checkcast 66, 3) := dk_192 0 66 (dk_at dksX1_init_8 3 rfl rfl)
theorem dX1_init_192 : decode cX1_init 192 = .ok (.astore_n 3, 1) := dk_78 (dk_at dksX1_init_8 6 rfl rfl)
theorem dX1_init_193 : decode cX1_init 193 = .ok (.iinc 2 1, 3) := dk_132 2 1 (dk_at dksX1_init_8 7 rfl rfl)
theorem dX1_init_196 : decode cX1_init 196 = .ok (.goto (-52), 3) := dk_167 255 204 (dk_at dksX1_init_8 10 rfl rfl)
theorem dX1_init_199 : decode cX1_init 199 = .ok (.iinc 1 1, 3) := dk_132 1 1 (dk_at dksX1_init_8 13 rfl rfl)
theorem dX1_init_202 : decode cX1_init 202 = .ok (.goto (-102), 3) := dk_167 255 154 (dk_at dksX1_init_8 16 rfl rfl)
theorem dX1_init_205 : decode cX1_init 205 = .ok (.return_, 1) := dk_177 (dk_at dksX1_init_8 19 rfl rfl)
abbrev cX1_busy : ByteArray := prog_1_method_37_code
def yX1_busy : MethodName := ⟨RX1, "busy", "()I"⟩
theorem dX1_busy_0 : decode cX1_busy 0 = .ok (.aload_n 0, 1) := by decide +kernel
theorem dX1_busy_1 : decode cX1_busy 1 = .ok (.getfield 230, 3) := by decide +kernel
theorem dX1_busy_4 : decode cX1_busy 4 = .ok (.ireturn, 1) := by decide +kernel
abbrev cX1_bookings : ByteArray := prog_1_method_43_code
def yX1_bookings : MethodName := ⟨RX1, "bookings", "()I"⟩
def dkwX1_bookings_0 : List UInt8 := [42, 180, 0, 38, 182, 0, 146, 172]
abbrev dktX1_bookings_0 : List UInt8 := dkwX1_bookings_0 ++ []
theorem dksX1_bookings_0 : cX1_bookings.data.toList.drop 0 = dktX1_bookings_0 := by decide +kernel
theorem dX1_bookings_0 : decode cX1_bookings 0 = .ok (.aload_n 0, 1) := dk_42 (dk_at dksX1_bookings_0 0 rfl rfl)
theorem dX1_bookings_1 : decode cX1_bookings 1 = .ok (.getfield 38, 3) := dk_180 0 38 (dk_at dksX1_bookings_0 1 rfl rfl)
theorem dX1_bookings_4 : decode cX1_bookings 4 = .ok (.invokevirtual 146, 3) := dk_182 0 146 (dk_at dksX1_bookings_0 4 rfl rfl)
theorem dX1_bookings_7 : decode cX1_bookings 7 = .ok (.ireturn, 1) := dk_172 (dk_at dksX1_bookings_0 7 rfl rfl)
abbrev cX1_trains : ByteArray := prog_1_method_51_code
def yX1_trains : MethodName := ⟨RX1, "trains", "()I"⟩
def dkwX1_trains_0 : List UInt8 := [42, 180, 0, 41, 182, 0, 146, 172]
abbrev dktX1_trains_0 : List UInt8 := dkwX1_trains_0 ++ []
theorem dksX1_trains_0 : cX1_trains.data.toList.drop 0 = dktX1_trains_0 := by decide +kernel
theorem dX1_trains_0 : decode cX1_trains 0 = .ok (.aload_n 0, 1) := dk_42 (dk_at dksX1_trains_0 0 rfl rfl)
theorem dX1_trains_1 : decode cX1_trains 1 = .ok (.getfield 41, 3) := dk_180 0 41 (dk_at dksX1_trains_0 1 rfl rfl)
theorem dX1_trains_4 : decode cX1_trains 4 = .ok (.invokevirtual 146, 3) := dk_182 0 146 (dk_at dksX1_trains_0 4 rfl rfl)
theorem dX1_trains_7 : decode cX1_trains 7 = .ok (.ireturn, 1) := dk_172 (dk_at dksX1_trains_0 7 rfl rfl)
abbrev cX1_wagon : ByteArray := prog_1_method_17_code
def yX1_wagon : MethodName := ⟨RX1, "wagon", "(II)I"⟩
def dkwX1_wagon_4 : List UInt8 := [187, 0, 168, 89, 25, 4, 180, 0, 170, 29, 183, 0, 173, 182, 0, 50, 87, 25, 4, 180, 0, 170, 172]
abbrev dktX1_wagon_4 : List UInt8 := dkwX1_wagon_4 ++ []
def dkwX1_wagon_3 : List UInt8 := [182, 0, 50, 87, 42, 180, 0, 10, 29, 182, 0, 74, 192, 0, 47, 25, 4, 182, 0, 164, 42, 180, 0, 44]
abbrev dktX1_wagon_3 : List UInt8 := dkwX1_wagon_3 ++ dktX1_wagon_4
def dkwX1_wagon_2 : List UInt8 := [187, 0, 69, 89, 42, 180, 0, 16, 182, 0, 146, 29, 183, 0, 163, 58, 4, 42, 180, 0, 16, 25, 4]
abbrev dktX1_wagon_2 : List UInt8 := dkwX1_wagon_2 ++ dktX1_wagon_3
def dkwX1_wagon_1 : List UInt8 := [182, 0, 74, 192, 0, 47, 182, 0, 78, 16, 6, 162, 0, 7, 4, 167, 0, 4, 3, 184, 0, 154]
abbrev dktX1_wagon_1 : List UInt8 := dkwX1_wagon_1 ++ dktX1_wagon_2
def dkwX1_wagon_0 : List UInt8 := [27, 28, 184, 0, 160, 62, 42, 180, 0, 16, 182, 0, 146, 16, 30, 162, 0, 26, 42, 180, 0, 10, 29]
abbrev dktX1_wagon_0 : List UInt8 := dkwX1_wagon_0 ++ dktX1_wagon_1
theorem dksX1_wagon_0 : cX1_wagon.data.toList.drop 0 = dktX1_wagon_0 := by decide +kernel
theorem dksX1_wagon_1 : cX1_wagon.data.toList.drop 23 = dktX1_wagon_1 := dk_seg dksX1_wagon_0 23 rfl rfl
theorem dksX1_wagon_2 : cX1_wagon.data.toList.drop 45 = dktX1_wagon_2 := dk_seg dksX1_wagon_1 22 rfl rfl
theorem dksX1_wagon_3 : cX1_wagon.data.toList.drop 68 = dktX1_wagon_3 := dk_seg dksX1_wagon_2 23 rfl rfl
theorem dksX1_wagon_4 : cX1_wagon.data.toList.drop 92 = dktX1_wagon_4 := dk_seg dksX1_wagon_3 24 rfl rfl
theorem dX1_wagon_0 : decode cX1_wagon 0 = .ok (.iload_n 1, 1) := dk_27 (dk_at dksX1_wagon_0 0 rfl rfl)
theorem dX1_wagon_1 : decode cX1_wagon 1 = .ok (.iload_n 2, 1) := dk_28 (dk_at dksX1_wagon_0 1 rfl rfl)
theorem dX1_wagon_2 : decode cX1_wagon 2 = .ok (.invokestatic 160, 3) := dk_184 0 160 (dk_at dksX1_wagon_0 2 rfl rfl)
theorem dX1_wagon_5 : decode cX1_wagon 5 = .ok (.istore_n 3, 1) := dk_62 (dk_at dksX1_wagon_0 5 rfl rfl)
theorem dX1_wagon_6 : decode cX1_wagon 6 = .ok (.aload_n 0, 1) := dk_42 (dk_at dksX1_wagon_0 6 rfl rfl)
theorem dX1_wagon_7 : decode cX1_wagon 7 = .ok (.getfield 16, 3) := dk_180 0 16 (dk_at dksX1_wagon_0 7 rfl rfl)
theorem dX1_wagon_10 : decode cX1_wagon 10 = .ok (.invokevirtual 146, 3) := dk_182 0 146 (dk_at dksX1_wagon_0 10 rfl rfl)
theorem dX1_wagon_13 : decode cX1_wagon 13 = .ok (.bipush 30, 2) := dk_16 30 (dk_at dksX1_wagon_0 13 rfl rfl)
theorem dX1_wagon_15 : decode cX1_wagon 15 = .ok (.if_icmp .ge 26, 3) := dk_162 0 26 (dk_at dksX1_wagon_0 15 rfl rfl)
theorem dX1_wagon_18 : decode cX1_wagon 18 = .ok (.aload_n 0, 1) := dk_42 (dk_at dksX1_wagon_0 18 rfl rfl)
theorem dX1_wagon_19 : decode cX1_wagon 19 = .ok (.getfield 10, 3) := dk_180 0 10 (dk_at dksX1_wagon_0 19 rfl rfl)
theorem dX1_wagon_22 : decode cX1_wagon 22 = .ok (.iload_n 3, 1) := dk_29 (dk_at dksX1_wagon_0 22 rfl rfl)
theorem dX1_wagon_23 : decode cX1_wagon 23 = .ok (.invokevirtual 74, 3) := dk_182 0 74 (dk_at dksX1_wagon_1 0 rfl rfl)
theorem dX1_wagon_26 : decode cX1_wagon 26 = .ok (.checkcast 47, 3) := dk_192 0 47 (dk_at dksX1_wagon_1 3 rfl rfl)
theorem dX1_wagon_29 : decode cX1_wagon 29 = .ok (.invokevirtual 78, 3) := dk_182 0 78 (dk_at dksX1_wagon_1 6 rfl rfl)
theorem dX1_wagon_32 : decode cX1_wagon 32 = .ok (.bipush 6, 2) := dk_16 6 (dk_at dksX1_wagon_1 9 rfl rfl)
theorem dX1_wagon_34 : decode cX1_wagon 34 = .ok (.if_icmp .ge 7, 3) := dk_162 0 7 (dk_at dksX1_wagon_1 11 rfl rfl)
theorem dX1_wagon_37 : decode cX1_wagon 37 = .ok (.iconst 1, 1) := dk_4 (dk_at dksX1_wagon_1 14 rfl rfl)
theorem dX1_wagon_38 : decode cX1_wagon 38 = .ok (.goto 4, 3) := dk_167 0 4 (dk_at dksX1_wagon_1 15 rfl rfl)
theorem dX1_wagon_41 : decode cX1_wagon 41 = .ok (.iconst 0, 1) := dk_3 (dk_at dksX1_wagon_1 18 rfl rfl)
theorem dX1_wagon_42 : decode cX1_wagon 42 = .ok (.invokestatic 154, 3) := dk_184 0 154 (dk_at dksX1_wagon_1 19 rfl rfl)
theorem dX1_wagon_45 : decode cX1_wagon 45 = .ok (.new 69, 3) := dk_187 0 69 (dk_at dksX1_wagon_2 0 rfl rfl)
theorem dX1_wagon_48 : decode cX1_wagon 48 = .ok (.dup, 1) := dk_89 (dk_at dksX1_wagon_2 3 rfl rfl)
theorem dX1_wagon_49 : decode cX1_wagon 49 = .ok (.aload_n 0, 1) := dk_42 (dk_at dksX1_wagon_2 4 rfl rfl)
theorem dX1_wagon_50 : decode cX1_wagon 50 = .ok (.getfield 16, 3) := dk_180 0 16 (dk_at dksX1_wagon_2 5 rfl rfl)
theorem dX1_wagon_53 : decode cX1_wagon 53 = .ok (.invokevirtual 146, 3) := dk_182 0 146 (dk_at dksX1_wagon_2 8 rfl rfl)
theorem dX1_wagon_56 : decode cX1_wagon 56 = .ok (.iload_n 3, 1) := dk_29 (dk_at dksX1_wagon_2 11 rfl rfl)
theorem dX1_wagon_57 : decode cX1_wagon 57 = .ok (.invokespecial 163, 3) := dk_183 0 163 (dk_at dksX1_wagon_2 12 rfl rfl)
theorem dX1_wagon_60 : decode cX1_wagon 60 = .ok (.astore 4, 2) := dk_58 4 (dk_at dksX1_wagon_2 15 rfl rfl)
theorem dX1_wagon_62 : decode cX1_wagon 62 = .ok (.aload_n 0, 1) := dk_42 (dk_at dksX1_wagon_2 17 rfl rfl)
theorem dX1_wagon_63 : decode cX1_wagon 63 = .ok (.getfield 16, 3) := dk_180 0 16 (dk_at dksX1_wagon_2 18 rfl rfl)
theorem dX1_wagon_66 : decode cX1_wagon 66 = .ok (.aload 4, 2) := dk_25 4 (dk_at dksX1_wagon_2 21 rfl rfl)
theorem dX1_wagon_68 : decode cX1_wagon 68 = .ok (.invokevirtual 50, 3) := dk_182 0 50 (dk_at dksX1_wagon_3 0 rfl rfl)
theorem dX1_wagon_71 : decode cX1_wagon 71 = .ok (.pop, 1) := dk_87 (dk_at dksX1_wagon_3 3 rfl rfl)
theorem dX1_wagon_72 : decode cX1_wagon 72 = .ok (.aload_n 0, 1) := dk_42 (dk_at dksX1_wagon_3 4 rfl rfl)
theorem dX1_wagon_73 : decode cX1_wagon 73 = .ok (.getfield 10, 3) := dk_180 0 10 (dk_at dksX1_wagon_3 5 rfl rfl)
theorem dX1_wagon_76 : decode cX1_wagon 76 = .ok (.iload_n 3, 1) := dk_29 (dk_at dksX1_wagon_3 8 rfl rfl)
theorem dX1_wagon_77 : decode cX1_wagon 77 = .ok (.invokevirtual 74, 3) := dk_182 0 74 (dk_at dksX1_wagon_3 9 rfl rfl)
theorem dX1_wagon_80 : decode cX1_wagon 80 = .ok (.checkcast 47, 3) := dk_192 0 47 (dk_at dksX1_wagon_3 12 rfl rfl)
theorem dX1_wagon_83 : decode cX1_wagon 83 = .ok (.aload 4, 2) := dk_25 4 (dk_at dksX1_wagon_3 15 rfl rfl)
theorem dX1_wagon_85 : decode cX1_wagon 85 = .ok (.invokevirtual 164, 3) := dk_182 0 164 (dk_at dksX1_wagon_3 17 rfl rfl)
theorem dX1_wagon_88 : decode cX1_wagon 88 = .ok (.aload_n 0, 1) := dk_42 (dk_at dksX1_wagon_3 20 rfl rfl)
theorem dX1_wagon_89 : decode cX1_wagon 89 = .ok (.getfield 44, 3) := dk_180 0 44 (dk_at dksX1_wagon_3 21 rfl rfl)
theorem dX1_wagon_92 : decode cX1_wagon 92 = .ok (.new 168, 3) := dk_187 0 168 (dk_at dksX1_wagon_4 0 rfl rfl)
theorem dX1_wagon_95 : decode cX1_wagon 95 = .ok (.dup, 1) := dk_89 (dk_at dksX1_wagon_4 3 rfl rfl)
theorem dX1_wagon_96 : decode cX1_wagon 96 = .ok (.aload 4, 2) := dk_25 4 (dk_at dksX1_wagon_4 4 rfl rfl)
theorem dX1_wagon_98 : decode cX1_wagon 98 = .ok (.getfield 170, 3) := dk_180 0 170 (dk_at dksX1_wagon_4 6 rfl rfl)
theorem dX1_wagon_101 : decode cX1_wagon 101 = .ok (.iload_n 3, 1) := dk_29 (dk_at dksX1_wagon_4 9 rfl rfl)
theorem dX1_wagon_102 : decode cX1_wagon 102 = .ok (.invokespecial 173, 3) := dk_183 0 173 (dk_at dksX1_wagon_4 10 rfl rfl)
theorem dX1_wagon_105 : decode cX1_wagon 105 = .ok (.invokevirtual 50, 3) := dk_182 0 50 (dk_at dksX1_wagon_4 13 rfl rfl)
theorem dX1_wagon_108 : decode cX1_wagon 108 = .ok (.pop, 1) := dk_87 (dk_at dksX1_wagon_4 16 rfl rfl)
theorem dX1_wagon_109 : decode cX1_wagon 109 = .ok (.aload 4, 2) := dk_25 4 (dk_at dksX1_wagon_4 17 rfl rfl)
theorem dX1_wagon_111 : decode cX1_wagon 111 = .ok (.getfield 170, 3) := dk_180 0 170 (dk_at dksX1_wagon_4 19 rfl rfl)
theorem dX1_wagon_114 : decode cX1_wagon 114 = .ok (.ireturn, 1) := dk_172 (dk_at dksX1_wagon_4 22 rfl rfl)
abbrev cX1_trackOf : ByteArray := prog_1_method_10_code
def yX1_trackOf : MethodName := ⟨RX1, "trackOf", "(II)I"⟩
def dkwX1_trackOf_0 : List UInt8 := [26, 3, 5, 184, 0, 139, 27, 3, 7, 184, 0, 139, 8, 26, 104, 27, 96, 172]
abbrev dktX1_trackOf_0 : List UInt8 := dkwX1_trackOf_0 ++ []
theorem dksX1_trackOf_0 : cX1_trackOf.data.toList.drop 0 = dktX1_trackOf_0 := by decide +kernel
theorem dX1_trackOf_0 : decode cX1_trackOf 0 = .ok (.iload_n 0, 1) := dk_26 (dk_at dksX1_trackOf_0 0 rfl rfl)
theorem dX1_trackOf_1 : decode cX1_trackOf 1 = .ok (.iconst 0, 1) := dk_3 (dk_at dksX1_trackOf_0 1 rfl rfl)
theorem dX1_trackOf_2 : decode cX1_trackOf 2 = .ok (.iconst 2, 1) := dk_5 (dk_at dksX1_trackOf_0 2 rfl rfl)
theorem dX1_trackOf_3 : decode cX1_trackOf 3 = .ok (.invokestatic 139, 3) := dk_184 0 139 (dk_at dksX1_trackOf_0 3 rfl rfl)
theorem dX1_trackOf_6 : decode cX1_trackOf 6 = .ok (.iload_n 1, 1) := dk_27 (dk_at dksX1_trackOf_0 6 rfl rfl)
theorem dX1_trackOf_7 : decode cX1_trackOf 7 = .ok (.iconst 0, 1) := dk_3 (dk_at dksX1_trackOf_0 7 rfl rfl)
theorem dX1_trackOf_8 : decode cX1_trackOf 8 = .ok (.iconst 4, 1) := dk_7 (dk_at dksX1_trackOf_0 8 rfl rfl)
theorem dX1_trackOf_9 : decode cX1_trackOf 9 = .ok (.invokestatic 139, 3) := dk_184 0 139 (dk_at dksX1_trackOf_0 9 rfl rfl)
theorem dX1_trackOf_12 : decode cX1_trackOf 12 = .ok (.iconst 5, 1) := dk_8 (dk_at dksX1_trackOf_0 12 rfl rfl)
theorem dX1_trackOf_13 : decode cX1_trackOf 13 = .ok (.iload_n 0, 1) := dk_26 (dk_at dksX1_trackOf_0 13 rfl rfl)
theorem dX1_trackOf_14 : decode cX1_trackOf 14 = .ok (.imul, 1) := dk_104 (dk_at dksX1_trackOf_0 14 rfl rfl)
theorem dX1_trackOf_15 : decode cX1_trackOf 15 = .ok (.iload_n 1, 1) := dk_27 (dk_at dksX1_trackOf_0 15 rfl rfl)
theorem dX1_trackOf_16 : decode cX1_trackOf 16 = .ok (.iadd, 1) := dk_96 (dk_at dksX1_trackOf_0 16 rfl rfl)
theorem dX1_trackOf_17 : decode cX1_trackOf 17 = .ok (.ireturn, 1) := dk_172 (dk_at dksX1_trackOf_0 17 rfl rfl)
abbrev cX1_limited : ByteArray := prog_1_method_7_code
def yX1_limited : MethodName := ⟨RX1, "limited", "(III)V"⟩
def dkwX1_limited_0 : List UInt8 := [26, 27, 161, 0, 8, 26, 28, 164, 0, 11, 187, 0, 130, 89, 183, 0, 132, 191, 177]
abbrev dktX1_limited_0 : List UInt8 := dkwX1_limited_0 ++ []
theorem dksX1_limited_0 : cX1_limited.data.toList.drop 0 = dktX1_limited_0 := by decide +kernel
theorem dX1_limited_0 : decode cX1_limited 0 = .ok (.iload_n 0, 1) := dk_26 (dk_at dksX1_limited_0 0 rfl rfl)
theorem dX1_limited_1 : decode cX1_limited 1 = .ok (.iload_n 1, 1) := dk_27 (dk_at dksX1_limited_0 1 rfl rfl)
theorem dX1_limited_2 : decode cX1_limited 2 = .ok (.if_icmp .lt 8, 3) := dk_161 0 8 (dk_at dksX1_limited_0 2 rfl rfl)
theorem dX1_limited_5 : decode cX1_limited 5 = .ok (.iload_n 0, 1) := dk_26 (dk_at dksX1_limited_0 5 rfl rfl)
theorem dX1_limited_6 : decode cX1_limited 6 = .ok (.iload_n 2, 1) := dk_28 (dk_at dksX1_limited_0 6 rfl rfl)
theorem dX1_limited_7 : decode cX1_limited 7 = .ok (.if_icmp .le 11, 3) := dk_164 0 11 (dk_at dksX1_limited_0 7 rfl rfl)
theorem dX1_limited_10 : decode cX1_limited 10 = .ok (.new 130, 3) := dk_187 0 130 (dk_at dksX1_limited_0 10 rfl rfl)
theorem dX1_limited_13 : decode cX1_limited 13 = .ok (.dup, 1) := dk_89 (dk_at dksX1_limited_0 13 rfl rfl)
theorem dX1_limited_14 : decode cX1_limited 14 = .ok (.invokespecial 132, 3) := dk_183 0 132 (dk_at dksX1_limited_0 14 rfl rfl)
theorem dX1_limited_17 : decode cX1_limited 17 = .ok (.athrow, 1) := dk_191 (dk_at dksX1_limited_0 17 rfl rfl)
theorem dX1_limited_18 : decode cX1_limited 18 = .ok (.return_, 1) := dk_177 (dk_at dksX1_limited_0 18 rfl rfl)
abbrev cX1_allowed : ByteArray := prog_1_method_8_code
def yX1_allowed : MethodName := ⟨RX1, "allowed", "(Z)V"⟩
def dkwX1_allowed_0 : List UInt8 := [26, 154, 0, 11, 187, 0, 133, 89, 183, 0, 135, 191, 177]
abbrev dktX1_allowed_0 : List UInt8 := dkwX1_allowed_0 ++ []
theorem dksX1_allowed_0 : cX1_allowed.data.toList.drop 0 = dktX1_allowed_0 := by decide +kernel
theorem dX1_allowed_0 : decode cX1_allowed 0 = .ok (.iload_n 0, 1) := dk_26 (dk_at dksX1_allowed_0 0 rfl rfl)
theorem dX1_allowed_1 : decode cX1_allowed 1 = .ok (.ifCond .ne 11, 3) := dk_154 0 11 (dk_at dksX1_allowed_0 1 rfl rfl)
theorem dX1_allowed_4 : decode cX1_allowed 4 = .ok (.new 133, 3) := dk_187 0 133 (dk_at dksX1_allowed_0 4 rfl rfl)
theorem dX1_allowed_7 : decode cX1_allowed 7 = .ok (.dup, 1) := dk_89 (dk_at dksX1_allowed_0 7 rfl rfl)
theorem dX1_allowed_8 : decode cX1_allowed 8 = .ok (.invokespecial 135, 3) := dk_183 0 135 (dk_at dksX1_allowed_0 8 rfl rfl)
theorem dX1_allowed_11 : decode cX1_allowed 11 = .ok (.athrow, 1) := dk_191 (dk_at dksX1_allowed_0 11 rfl rfl)
theorem dX1_allowed_12 : decode cX1_allowed 12 = .ok (.return_, 1) := dk_177 (dk_at dksX1_allowed_0 12 rfl rfl)
abbrev cX1_shunt : ByteArray := prog_1_method_18_code
def yX1_shunt : MethodName := ⟨RX1, "shunt", "(IIII)I"⟩
def dkwX1_shunt_8 : List UInt8 := [29, 96, 21, 4, 183, 0, 190, 182, 0, 50, 87, 25, 6, 182, 0, 78, 172]
abbrev dktX1_shunt_8 : List UInt8 := dkwX1_shunt_8 ++ []
def dkwX1_shunt_7 : List UInt8 := [25, 9, 182, 0, 164, 167, 255, 217, 42, 180, 0, 44, 187, 0, 188, 89, 8, 27, 104, 28, 96, 8, 27, 104]
abbrev dktX1_shunt_7 : List UInt8 := dkwX1_shunt_7 ++ dktX1_shunt_8
def dkwX1_shunt_6 : List UInt8 := [25, 8, 185, 0, 117, 1, 0, 192, 0, 69, 58, 9, 25, 9, 8, 27, 104, 29, 96, 181, 0, 185, 25, 6]
abbrev dktX1_shunt_6 : List UInt8 := dkwX1_shunt_6 ++ dktX1_shunt_7
def dkwX1_shunt_5 : List UInt8 := [182, 0, 181, 167, 255, 233, 25, 7, 182, 0, 184, 58, 8, 25, 8, 185, 0, 112, 1, 0, 153, 0, 35]
abbrev dktX1_shunt_5 : List UInt8 := dkwX1_shunt_5 ++ dktX1_shunt_6
def dkwX1_shunt_4 : List UInt8 := [58, 7, 25, 7, 182, 0, 177, 21, 4, 162, 0, 19, 25, 7, 25, 5, 182, 0, 178, 192, 0, 69]
abbrev dktX1_shunt_4 : List UInt8 := dkwX1_shunt_4 ++ dktX1_shunt_5
def dkwX1_shunt_3 : List UInt8 := [21, 4, 96, 16, 6, 163, 0, 7, 4, 167, 0, 4, 3, 184, 0, 154, 187, 0, 174, 89, 183, 0, 176]
abbrev dktX1_shunt_3 : List UInt8 := dkwX1_shunt_3 ++ dktX1_shunt_4
def dkwX1_shunt_2 : List UInt8 := [182, 0, 74, 192, 0, 47, 58, 6, 25, 5, 182, 0, 78, 21, 4, 161, 0, 20, 25, 6, 182, 0, 78]
abbrev dktX1_shunt_2 : List UInt8 := dkwX1_shunt_2 ++ dktX1_shunt_3
def dkwX1_shunt_1 : List UInt8 := [8, 27, 104, 28, 96, 182, 0, 74, 192, 0, 47, 58, 5, 42, 180, 0, 10, 8, 27, 104, 29, 96]
abbrev dktX1_shunt_1 : List UInt8 := dkwX1_shunt_1 ++ dktX1_shunt_2
def dkwX1_shunt_0 : List UInt8 := [27, 3, 5, 184, 0, 139, 28, 29, 8, 184, 0, 143, 21, 4, 4, 16, 6, 184, 0, 139, 42, 180, 0, 10]
abbrev dktX1_shunt_0 : List UInt8 := dkwX1_shunt_0 ++ dktX1_shunt_1
theorem dksX1_shunt_0 : cX1_shunt.data.toList.drop 0 = dktX1_shunt_0 := by decide +kernel
theorem dksX1_shunt_1 : cX1_shunt.data.toList.drop 24 = dktX1_shunt_1 := dk_seg dksX1_shunt_0 24 rfl rfl
theorem dksX1_shunt_2 : cX1_shunt.data.toList.drop 46 = dktX1_shunt_2 := dk_seg dksX1_shunt_1 22 rfl rfl
theorem dksX1_shunt_3 : cX1_shunt.data.toList.drop 69 = dktX1_shunt_3 := dk_seg dksX1_shunt_2 23 rfl rfl
theorem dksX1_shunt_4 : cX1_shunt.data.toList.drop 92 = dktX1_shunt_4 := dk_seg dksX1_shunt_3 23 rfl rfl
theorem dksX1_shunt_5 : cX1_shunt.data.toList.drop 114 = dktX1_shunt_5 := dk_seg dksX1_shunt_4 22 rfl rfl
theorem dksX1_shunt_6 : cX1_shunt.data.toList.drop 137 = dktX1_shunt_6 := dk_seg dksX1_shunt_5 23 rfl rfl
theorem dksX1_shunt_7 : cX1_shunt.data.toList.drop 161 = dktX1_shunt_7 := dk_seg dksX1_shunt_6 24 rfl rfl
theorem dksX1_shunt_8 : cX1_shunt.data.toList.drop 185 = dktX1_shunt_8 := dk_seg dksX1_shunt_7 24 rfl rfl
theorem dX1_shunt_0 : decode cX1_shunt 0 = .ok (.iload_n 1, 1) := dk_27 (dk_at dksX1_shunt_0 0 rfl rfl)
theorem dX1_shunt_1 : decode cX1_shunt 1 = .ok (.iconst 0, 1) := dk_3 (dk_at dksX1_shunt_0 1 rfl rfl)
theorem dX1_shunt_2 : decode cX1_shunt 2 = .ok (.iconst 2, 1) := dk_5 (dk_at dksX1_shunt_0 2 rfl rfl)
theorem dX1_shunt_3 : decode cX1_shunt 3 = .ok (.invokestatic 139, 3) := dk_184 0 139 (dk_at dksX1_shunt_0 3 rfl rfl)
theorem dX1_shunt_6 : decode cX1_shunt 6 = .ok (.iload_n 2, 1) := dk_28 (dk_at dksX1_shunt_0 6 rfl rfl)
theorem dX1_shunt_7 : decode cX1_shunt 7 = .ok (.iload_n 3, 1) := dk_29 (dk_at dksX1_shunt_0 7 rfl rfl)
theorem dX1_shunt_8 : decode cX1_shunt 8 = .ok (.iconst 5, 1) := dk_8 (dk_at dksX1_shunt_0 8 rfl rfl)
theorem dX1_shunt_9 : decode cX1_shunt 9 = .ok (.invokestatic 143, 3) := dk_184 0 143 (dk_at dksX1_shunt_0 9 rfl rfl)
theorem dX1_shunt_12 : decode cX1_shunt 12 = .ok (.iload 4, 2) := dk_21 4 (dk_at dksX1_shunt_0 12 rfl rfl)
theorem dX1_shunt_14 : decode cX1_shunt 14 = .ok (.iconst 1, 1) := dk_4 (dk_at dksX1_shunt_0 14 rfl rfl)
theorem dX1_shunt_15 : decode cX1_shunt 15 = .ok (.bipush 6, 2) := dk_16 6 (dk_at dksX1_shunt_0 15 rfl rfl)
theorem dX1_shunt_17 : decode cX1_shunt 17 = .ok (.invokestatic 139, 3) := dk_184 0 139 (dk_at dksX1_shunt_0 17 rfl rfl)
theorem dX1_shunt_20 : decode cX1_shunt 20 = .ok (.aload_n 0, 1) := dk_42 (dk_at dksX1_shunt_0 20 rfl rfl)
theorem dX1_shunt_21 : decode cX1_shunt 21 = .ok (.getfield 10, 3) := dk_180 0 10 (dk_at dksX1_shunt_0 21 rfl rfl)
theorem dX1_shunt_24 : decode cX1_shunt 24 = .ok (.iconst 5, 1) := dk_8 (dk_at dksX1_shunt_1 0 rfl rfl)
theorem dX1_shunt_25 : decode cX1_shunt 25 = .ok (.iload_n 1, 1) := dk_27 (dk_at dksX1_shunt_1 1 rfl rfl)
theorem dX1_shunt_26 : decode cX1_shunt 26 = .ok (.imul, 1) := dk_104 (dk_at dksX1_shunt_1 2 rfl rfl)
theorem dX1_shunt_27 : decode cX1_shunt 27 = .ok (.iload_n 2, 1) := dk_28 (dk_at dksX1_shunt_1 3 rfl rfl)
theorem dX1_shunt_28 : decode cX1_shunt 28 = .ok (.iadd, 1) := dk_96 (dk_at dksX1_shunt_1 4 rfl rfl)
theorem dX1_shunt_29 : decode cX1_shunt 29 = .ok (.invokevirtual 74, 3) := dk_182 0 74 (dk_at dksX1_shunt_1 5 rfl rfl)
theorem dX1_shunt_32 : decode cX1_shunt 32 = .ok (.checkcast 47, 3) := dk_192 0 47 (dk_at dksX1_shunt_1 8 rfl rfl)
theorem dX1_shunt_35 : decode cX1_shunt 35 = .ok (.astore 5, 2) := dk_58 5 (dk_at dksX1_shunt_1 11 rfl rfl)
theorem dX1_shunt_37 : decode cX1_shunt 37 = .ok (.aload_n 0, 1) := dk_42 (dk_at dksX1_shunt_1 13 rfl rfl)
theorem dX1_shunt_38 : decode cX1_shunt 38 = .ok (.getfield 10, 3) := dk_180 0 10 (dk_at dksX1_shunt_1 14 rfl rfl)
theorem dX1_shunt_41 : decode cX1_shunt 41 = .ok (.iconst 5, 1) := dk_8 (dk_at dksX1_shunt_1 17 rfl rfl)
theorem dX1_shunt_42 : decode cX1_shunt 42 = .ok (.iload_n 1, 1) := dk_27 (dk_at dksX1_shunt_1 18 rfl rfl)
theorem dX1_shunt_43 : decode cX1_shunt 43 = .ok (.imul, 1) := dk_104 (dk_at dksX1_shunt_1 19 rfl rfl)
theorem dX1_shunt_44 : decode cX1_shunt 44 = .ok (.iload_n 3, 1) := dk_29 (dk_at dksX1_shunt_1 20 rfl rfl)
theorem dX1_shunt_45 : decode cX1_shunt 45 = .ok (.iadd, 1) := dk_96 (dk_at dksX1_shunt_1 21 rfl rfl)
theorem dX1_shunt_46 : decode cX1_shunt 46 = .ok (.invokevirtual 74, 3) := dk_182 0 74 (dk_at dksX1_shunt_2 0 rfl rfl)
theorem dX1_shunt_49 : decode cX1_shunt 49 = .ok (.checkcast 47, 3) := dk_192 0 47 (dk_at dksX1_shunt_2 3 rfl rfl)
theorem dX1_shunt_52 : decode cX1_shunt 52 = .ok (.astore 6, 2) := dk_58 6 (dk_at dksX1_shunt_2 6 rfl rfl)
theorem dX1_shunt_54 : decode cX1_shunt 54 = .ok (.aload 5, 2) := dk_25 5 (dk_at dksX1_shunt_2 8 rfl rfl)
theorem dX1_shunt_56 : decode cX1_shunt 56 = .ok (.invokevirtual 78, 3) := dk_182 0 78 (dk_at dksX1_shunt_2 10 rfl rfl)
theorem dX1_shunt_59 : decode cX1_shunt 59 = .ok (.iload 4, 2) := dk_21 4 (dk_at dksX1_shunt_2 13 rfl rfl)
theorem dX1_shunt_61 : decode cX1_shunt 61 = .ok (.if_icmp .lt 20, 3) := dk_161 0 20 (dk_at dksX1_shunt_2 15 rfl rfl)
theorem dX1_shunt_64 : decode cX1_shunt 64 = .ok (.aload 6, 2) := dk_25 6 (dk_at dksX1_shunt_2 18 rfl rfl)
theorem dX1_shunt_66 : decode cX1_shunt 66 = .ok (.invokevirtual 78, 3) := dk_182 0 78 (dk_at dksX1_shunt_2 20 rfl rfl)
theorem dX1_shunt_69 : decode cX1_shunt 69 = .ok (.iload 4, 2) := dk_21 4 (dk_at dksX1_shunt_3 0 rfl rfl)
theorem dX1_shunt_71 : decode cX1_shunt 71 = .ok (.iadd, 1) := dk_96 (dk_at dksX1_shunt_3 2 rfl rfl)
theorem dX1_shunt_72 : decode cX1_shunt 72 = .ok (.bipush 6, 2) := dk_16 6 (dk_at dksX1_shunt_3 3 rfl rfl)
theorem dX1_shunt_74 : decode cX1_shunt 74 = .ok (.if_icmp .gt 7, 3) := dk_163 0 7 (dk_at dksX1_shunt_3 5 rfl rfl)
theorem dX1_shunt_77 : decode cX1_shunt 77 = .ok (.iconst 1, 1) := dk_4 (dk_at dksX1_shunt_3 8 rfl rfl)
theorem dX1_shunt_78 : decode cX1_shunt 78 = .ok (.goto 4, 3) := dk_167 0 4 (dk_at dksX1_shunt_3 9 rfl rfl)
theorem dX1_shunt_81 : decode cX1_shunt 81 = .ok (.iconst 0, 1) := dk_3 (dk_at dksX1_shunt_3 12 rfl rfl)
theorem dX1_shunt_82 : decode cX1_shunt 82 = .ok (.invokestatic 154, 3) := dk_184 0 154 (dk_at dksX1_shunt_3 13 rfl rfl)
theorem dX1_shunt_85 : decode cX1_shunt 85 = .ok (.new 174, 3) := dk_187 0 174 (dk_at dksX1_shunt_3 16 rfl rfl)
theorem dX1_shunt_88 : decode cX1_shunt 88 = .ok (.dup, 1) := dk_89 (dk_at dksX1_shunt_3 19 rfl rfl)
theorem dX1_shunt_89 : decode cX1_shunt 89 = .ok (.invokespecial 176, 3) := dk_183 0 176 (dk_at dksX1_shunt_3 20 rfl rfl)
theorem dX1_shunt_92 : decode cX1_shunt 92 = .ok (.astore 7, 2) := dk_58 7 (dk_at dksX1_shunt_4 0 rfl rfl)
theorem dX1_shunt_94 : decode cX1_shunt 94 = .ok (.aload 7, 2) := dk_25 7 (dk_at dksX1_shunt_4 2 rfl rfl)
theorem dX1_shunt_96 : decode cX1_shunt 96 = .ok (.invokevirtual 177, 3) := dk_182 0 177 (dk_at dksX1_shunt_4 4 rfl rfl)
theorem dX1_shunt_99 : decode cX1_shunt 99 = .ok (.iload 4, 2) := dk_21 4 (dk_at dksX1_shunt_4 7 rfl rfl)
theorem dX1_shunt_101 : decode cX1_shunt 101 = .ok (.if_icmp .ge 19, 3) := dk_162 0 19 (dk_at dksX1_shunt_4 9 rfl rfl)
theorem dX1_shunt_104 : decode cX1_shunt 104 = .ok (.aload 7, 2) := dk_25 7 (dk_at dksX1_shunt_4 12 rfl rfl)
theorem dX1_shunt_106 : decode cX1_shunt 106 = .ok (.aload 5, 2) := dk_25 5 (dk_at dksX1_shunt_4 14 rfl rfl)
theorem dX1_shunt_108 : decode cX1_shunt 108 = .ok (.invokevirtual 178, 3) := dk_182 0 178 (dk_at dksX1_shunt_4 16 rfl rfl)
theorem dX1_shunt_111 : decode cX1_shunt 111 = .ok (.checkcast 69, 3) := dk_192 0 69 (dk_at dksX1_shunt_4 19 rfl rfl)
theorem dX1_shunt_114 : decode cX1_shunt 114 = .ok (.invokevirtual 181, 3) := dk_182 0 181 (dk_at dksX1_shunt_5 0 rfl rfl)
theorem dX1_shunt_117 : decode cX1_shunt 117 = .ok (.goto (-23), 3) := dk_167 255 233 (dk_at dksX1_shunt_5 3 rfl rfl)
theorem dX1_shunt_120 : decode cX1_shunt 120 = .ok (.aload 7, 2) := dk_25 7 (dk_at dksX1_shunt_5 6 rfl rfl)
theorem dX1_shunt_122 : decode cX1_shunt 122 = .ok (.invokevirtual 184, 3) := dk_182 0 184 (dk_at dksX1_shunt_5 8 rfl rfl)
theorem dX1_shunt_125 : decode cX1_shunt 125 = .ok (.astore 8, 2) := dk_58 8 (dk_at dksX1_shunt_5 11 rfl rfl)
theorem dX1_shunt_127 : decode cX1_shunt 127 = .ok (.aload 8, 2) := dk_25 8 (dk_at dksX1_shunt_5 13 rfl rfl)
theorem dX1_shunt_129 : decode cX1_shunt 129 = .ok (.invokeinterface 112 1, 5) := by decide +kernel
theorem dX1_shunt_134 : decode cX1_shunt 134 = .ok (.ifCond .eq 35, 3) := dk_153 0 35 (dk_at dksX1_shunt_5 20 rfl rfl)
theorem dX1_shunt_137 : decode cX1_shunt 137 = .ok (.aload 8, 2) := dk_25 8 (dk_at dksX1_shunt_6 0 rfl rfl)
theorem dX1_shunt_139 : decode cX1_shunt 139 = .ok (.invokeinterface 117 1, 5) := by decide +kernel
theorem dX1_shunt_144 : decode cX1_shunt 144 = .ok (.checkcast 69, 3) := dk_192 0 69 (dk_at dksX1_shunt_6 7 rfl rfl)
theorem dX1_shunt_147 : decode cX1_shunt 147 = .ok (.astore 9, 2) := dk_58 9 (dk_at dksX1_shunt_6 10 rfl rfl)
theorem dX1_shunt_149 : decode cX1_shunt 149 = .ok (.aload 9, 2) := dk_25 9 (dk_at dksX1_shunt_6 12 rfl rfl)
theorem dX1_shunt_151 : decode cX1_shunt 151 = .ok (.iconst 5, 1) := dk_8 (dk_at dksX1_shunt_6 14 rfl rfl)
theorem dX1_shunt_152 : decode cX1_shunt 152 = .ok (.iload_n 1, 1) := dk_27 (dk_at dksX1_shunt_6 15 rfl rfl)
theorem dX1_shunt_153 : decode cX1_shunt 153 = .ok (.imul, 1) := dk_104 (dk_at dksX1_shunt_6 16 rfl rfl)
theorem dX1_shunt_154 : decode cX1_shunt 154 = .ok (.iload_n 3, 1) := dk_29 (dk_at dksX1_shunt_6 17 rfl rfl)
theorem dX1_shunt_155 : decode cX1_shunt 155 = .ok (.iadd, 1) := dk_96 (dk_at dksX1_shunt_6 18 rfl rfl)
theorem dX1_shunt_156 : decode cX1_shunt 156 = .ok (.putfield 185, 3) := dk_181 0 185 (dk_at dksX1_shunt_6 19 rfl rfl)
theorem dX1_shunt_159 : decode cX1_shunt 159 = .ok (.aload 6, 2) := dk_25 6 (dk_at dksX1_shunt_6 22 rfl rfl)
theorem dX1_shunt_161 : decode cX1_shunt 161 = .ok (.aload 9, 2) := dk_25 9 (dk_at dksX1_shunt_7 0 rfl rfl)
theorem dX1_shunt_163 : decode cX1_shunt 163 = .ok (.invokevirtual 164, 3) := dk_182 0 164 (dk_at dksX1_shunt_7 2 rfl rfl)
theorem dX1_shunt_166 : decode cX1_shunt 166 = .ok (.goto (-39), 3) := dk_167 255 217 (dk_at dksX1_shunt_7 5 rfl rfl)
theorem dX1_shunt_169 : decode cX1_shunt 169 = .ok (.aload_n 0, 1) := dk_42 (dk_at dksX1_shunt_7 8 rfl rfl)
theorem dX1_shunt_170 : decode cX1_shunt 170 = .ok (.getfield 44, 3) := dk_180 0 44 (dk_at dksX1_shunt_7 9 rfl rfl)
theorem dX1_shunt_173 : decode cX1_shunt 173 = .ok (.new 188, 3) := dk_187 0 188 (dk_at dksX1_shunt_7 12 rfl rfl)
theorem dX1_shunt_176 : decode cX1_shunt 176 = .ok (.dup, 1) := dk_89 (dk_at dksX1_shunt_7 15 rfl rfl)
theorem dX1_shunt_177 : decode cX1_shunt 177 = .ok (.iconst 5, 1) := dk_8 (dk_at dksX1_shunt_7 16 rfl rfl)
theorem dX1_shunt_178 : decode cX1_shunt 178 = .ok (.iload_n 1, 1) := dk_27 (dk_at dksX1_shunt_7 17 rfl rfl)
theorem dX1_shunt_179 : decode cX1_shunt 179 = .ok (.imul, 1) := dk_104 (dk_at dksX1_shunt_7 18 rfl rfl)
theorem dX1_shunt_180 : decode cX1_shunt 180 = .ok (.iload_n 2, 1) := dk_28 (dk_at dksX1_shunt_7 19 rfl rfl)
theorem dX1_shunt_181 : decode cX1_shunt 181 = .ok (.iadd, 1) := dk_96 (dk_at dksX1_shunt_7 20 rfl rfl)
theorem dX1_shunt_182 : decode cX1_shunt 182 = .ok (.iconst 5, 1) := dk_8 (dk_at dksX1_shunt_7 21 rfl rfl)
theorem dX1_shunt_183 : decode cX1_shunt 183 = .ok (.iload_n 1, 1) := dk_27 (dk_at dksX1_shunt_7 22 rfl rfl)
theorem dX1_shunt_184 : decode cX1_shunt 184 = .ok (.imul, 1) := dk_104 (dk_at dksX1_shunt_7 23 rfl rfl)
theorem dX1_shunt_185 : decode cX1_shunt 185 = .ok (.iload_n 3, 1) := dk_29 (dk_at dksX1_shunt_8 0 rfl rfl)
theorem dX1_shunt_186 : decode cX1_shunt 186 = .ok (.iadd, 1) := dk_96 (dk_at dksX1_shunt_8 1 rfl rfl)
theorem dX1_shunt_187 : decode cX1_shunt 187 = .ok (.iload 4, 2) := dk_21 4 (dk_at dksX1_shunt_8 2 rfl rfl)
theorem dX1_shunt_189 : decode cX1_shunt 189 = .ok (.invokespecial 190, 3) := dk_183 0 190 (dk_at dksX1_shunt_8 4 rfl rfl)
theorem dX1_shunt_192 : decode cX1_shunt 192 = .ok (.invokevirtual 50, 3) := dk_182 0 50 (dk_at dksX1_shunt_8 7 rfl rfl)
theorem dX1_shunt_195 : decode cX1_shunt 195 = .ok (.pop, 1) := dk_87 (dk_at dksX1_shunt_8 10 rfl rfl)
theorem dX1_shunt_196 : decode cX1_shunt 196 = .ok (.aload 6, 2) := dk_25 6 (dk_at dksX1_shunt_8 11 rfl rfl)
theorem dX1_shunt_198 : decode cX1_shunt 198 = .ok (.invokevirtual 78, 3) := dk_182 0 78 (dk_at dksX1_shunt_8 13 rfl rfl)
theorem dX1_shunt_201 : decode cX1_shunt 201 = .ok (.ireturn, 1) := dk_172 (dk_at dksX1_shunt_8 16 rfl rfl)
abbrev cX1_unlike : ByteArray := prog_1_method_11_code
def yX1_unlike : MethodName := ⟨RX1, "unlike", "(III)V"⟩
def dkwX1_unlike_1 : List UInt8 := [167, 0, 4, 3, 3, 3, 184, 0, 139, 177]
abbrev dktX1_unlike_1 : List UInt8 := dkwX1_unlike_1 ++ []
def dkwX1_unlike_0 : List UInt8 := [26, 3, 28, 4, 100, 184, 0, 139, 27, 3, 28, 4, 100, 184, 0, 139, 26, 27, 160, 0, 7, 2]
abbrev dktX1_unlike_0 : List UInt8 := dkwX1_unlike_0 ++ dktX1_unlike_1
theorem dksX1_unlike_0 : cX1_unlike.data.toList.drop 0 = dktX1_unlike_0 := by decide +kernel
theorem dksX1_unlike_1 : cX1_unlike.data.toList.drop 22 = dktX1_unlike_1 := dk_seg dksX1_unlike_0 22 rfl rfl
theorem dX1_unlike_0 : decode cX1_unlike 0 = .ok (.iload_n 0, 1) := dk_26 (dk_at dksX1_unlike_0 0 rfl rfl)
theorem dX1_unlike_1 : decode cX1_unlike 1 = .ok (.iconst 0, 1) := dk_3 (dk_at dksX1_unlike_0 1 rfl rfl)
theorem dX1_unlike_2 : decode cX1_unlike 2 = .ok (.iload_n 2, 1) := dk_28 (dk_at dksX1_unlike_0 2 rfl rfl)
theorem dX1_unlike_3 : decode cX1_unlike 3 = .ok (.iconst 1, 1) := dk_4 (dk_at dksX1_unlike_0 3 rfl rfl)
theorem dX1_unlike_4 : decode cX1_unlike 4 = .ok (.isub, 1) := dk_100 (dk_at dksX1_unlike_0 4 rfl rfl)
theorem dX1_unlike_5 : decode cX1_unlike 5 = .ok (.invokestatic 139, 3) := dk_184 0 139 (dk_at dksX1_unlike_0 5 rfl rfl)
theorem dX1_unlike_8 : decode cX1_unlike 8 = .ok (.iload_n 1, 1) := dk_27 (dk_at dksX1_unlike_0 8 rfl rfl)
theorem dX1_unlike_9 : decode cX1_unlike 9 = .ok (.iconst 0, 1) := dk_3 (dk_at dksX1_unlike_0 9 rfl rfl)
theorem dX1_unlike_10 : decode cX1_unlike 10 = .ok (.iload_n 2, 1) := dk_28 (dk_at dksX1_unlike_0 10 rfl rfl)
theorem dX1_unlike_11 : decode cX1_unlike 11 = .ok (.iconst 1, 1) := dk_4 (dk_at dksX1_unlike_0 11 rfl rfl)
theorem dX1_unlike_12 : decode cX1_unlike 12 = .ok (.isub, 1) := dk_100 (dk_at dksX1_unlike_0 12 rfl rfl)
theorem dX1_unlike_13 : decode cX1_unlike 13 = .ok (.invokestatic 139, 3) := dk_184 0 139 (dk_at dksX1_unlike_0 13 rfl rfl)
theorem dX1_unlike_16 : decode cX1_unlike 16 = .ok (.iload_n 0, 1) := dk_26 (dk_at dksX1_unlike_0 16 rfl rfl)
theorem dX1_unlike_17 : decode cX1_unlike 17 = .ok (.iload_n 1, 1) := dk_27 (dk_at dksX1_unlike_0 17 rfl rfl)
theorem dX1_unlike_18 : decode cX1_unlike 18 = .ok (.if_icmp .ne 7, 3) := dk_160 0 7 (dk_at dksX1_unlike_0 18 rfl rfl)
theorem dX1_unlike_21 : decode cX1_unlike 21 = .ok (.iconst (-1), 1) := dk_2 (dk_at dksX1_unlike_0 21 rfl rfl)
theorem dX1_unlike_22 : decode cX1_unlike 22 = .ok (.goto 4, 3) := dk_167 0 4 (dk_at dksX1_unlike_1 0 rfl rfl)
theorem dX1_unlike_25 : decode cX1_unlike 25 = .ok (.iconst 0, 1) := dk_3 (dk_at dksX1_unlike_1 3 rfl rfl)
theorem dX1_unlike_26 : decode cX1_unlike 26 = .ok (.iconst 0, 1) := dk_3 (dk_at dksX1_unlike_1 4 rfl rfl)
theorem dX1_unlike_27 : decode cX1_unlike 27 = .ok (.iconst 0, 1) := dk_3 (dk_at dksX1_unlike_1 5 rfl rfl)
theorem dX1_unlike_28 : decode cX1_unlike 28 = .ok (.invokestatic 139, 3) := dk_184 0 139 (dk_at dksX1_unlike_1 6 rfl rfl)
theorem dX1_unlike_31 : decode cX1_unlike 31 = .ok (.return_, 1) := dk_177 (dk_at dksX1_unlike_1 9 rfl rfl)
abbrev cX1_wash : ByteArray := prog_1_method_19_code
def yX1_wash : MethodName := ⟨RX1, "wash", "(I)I"⟩
def dkwX1_wash_2 : List UInt8 := [192, 0, 69, 2, 181, 0, 68, 29, 172]
abbrev dktX1_wash_2 : List UInt8 := dkwX1_wash_2 ++ []
def dkwX1_wash_1 : List UInt8 := [167, 0, 4, 3, 184, 0, 154, 44, 182, 0, 195, 192, 0, 69, 180, 0, 68, 62, 44, 182, 0, 195]
abbrev dktX1_wash_1 : List UInt8 := dkwX1_wash_1 ++ dktX1_wash_2
def dkwX1_wash_0 : List UInt8 := [42, 180, 0, 10, 27, 3, 184, 0, 160, 182, 0, 74, 192, 0, 47, 77, 44, 182, 0, 192, 154, 0, 7, 4]
abbrev dktX1_wash_0 : List UInt8 := dkwX1_wash_0 ++ dktX1_wash_1
theorem dksX1_wash_0 : cX1_wash.data.toList.drop 0 = dktX1_wash_0 := by decide +kernel
theorem dksX1_wash_1 : cX1_wash.data.toList.drop 24 = dktX1_wash_1 := dk_seg dksX1_wash_0 24 rfl rfl
theorem dksX1_wash_2 : cX1_wash.data.toList.drop 46 = dktX1_wash_2 := dk_seg dksX1_wash_1 22 rfl rfl
theorem dX1_wash_0 : decode cX1_wash 0 = .ok (.aload_n 0, 1) := dk_42 (dk_at dksX1_wash_0 0 rfl rfl)
theorem dX1_wash_1 : decode cX1_wash 1 = .ok (.getfield 10, 3) := dk_180 0 10 (dk_at dksX1_wash_0 1 rfl rfl)
theorem dX1_wash_4 : decode cX1_wash 4 = .ok (.iload_n 1, 1) := dk_27 (dk_at dksX1_wash_0 4 rfl rfl)
theorem dX1_wash_5 : decode cX1_wash 5 = .ok (.iconst 0, 1) := dk_3 (dk_at dksX1_wash_0 5 rfl rfl)
theorem dX1_wash_6 : decode cX1_wash 6 = .ok (.invokestatic 160, 3) := dk_184 0 160 (dk_at dksX1_wash_0 6 rfl rfl)
theorem dX1_wash_9 : decode cX1_wash 9 = .ok (.invokevirtual 74, 3) := dk_182 0 74 (dk_at dksX1_wash_0 9 rfl rfl)
theorem dX1_wash_12 : decode cX1_wash 12 = .ok (.checkcast 47, 3) := dk_192 0 47 (dk_at dksX1_wash_0 12 rfl rfl)
theorem dX1_wash_15 : decode cX1_wash 15 = .ok (.astore_n 2, 1) := dk_77 (dk_at dksX1_wash_0 15 rfl rfl)
theorem dX1_wash_16 : decode cX1_wash 16 = .ok (.aload_n 2, 1) := dk_44 (dk_at dksX1_wash_0 16 rfl rfl)
theorem dX1_wash_17 : decode cX1_wash 17 = .ok (.invokevirtual 192, 3) := dk_182 0 192 (dk_at dksX1_wash_0 17 rfl rfl)
theorem dX1_wash_20 : decode cX1_wash 20 = .ok (.ifCond .ne 7, 3) := dk_154 0 7 (dk_at dksX1_wash_0 20 rfl rfl)
theorem dX1_wash_23 : decode cX1_wash 23 = .ok (.iconst 1, 1) := dk_4 (dk_at dksX1_wash_0 23 rfl rfl)
theorem dX1_wash_24 : decode cX1_wash 24 = .ok (.goto 4, 3) := dk_167 0 4 (dk_at dksX1_wash_1 0 rfl rfl)
theorem dX1_wash_27 : decode cX1_wash 27 = .ok (.iconst 0, 1) := dk_3 (dk_at dksX1_wash_1 3 rfl rfl)
theorem dX1_wash_28 : decode cX1_wash 28 = .ok (.invokestatic 154, 3) := dk_184 0 154 (dk_at dksX1_wash_1 4 rfl rfl)
theorem dX1_wash_31 : decode cX1_wash 31 = .ok (.aload_n 2, 1) := dk_44 (dk_at dksX1_wash_1 7 rfl rfl)
theorem dX1_wash_32 : decode cX1_wash 32 = .ok (.invokevirtual 195, 3) := dk_182 0 195 (dk_at dksX1_wash_1 8 rfl rfl)
theorem dX1_wash_35 : decode cX1_wash 35 = .ok (.checkcast 69, 3) := dk_192 0 69 (dk_at dksX1_wash_1 11 rfl rfl)
theorem dX1_wash_38 : decode cX1_wash 38 = .ok (.getfield 68, 3) := dk_180 0 68 (dk_at dksX1_wash_1 14 rfl rfl)
theorem dX1_wash_41 : decode cX1_wash 41 = .ok (.istore_n 3, 1) := dk_62 (dk_at dksX1_wash_1 17 rfl rfl)
theorem dX1_wash_42 : decode cX1_wash 42 = .ok (.aload_n 2, 1) := dk_44 (dk_at dksX1_wash_1 18 rfl rfl)
theorem dX1_wash_43 : decode cX1_wash 43 = .ok (.invokevirtual 195, 3) := dk_182 0 195 (dk_at dksX1_wash_1 19 rfl rfl)
theorem dX1_wash_46 : decode cX1_wash 46 = .ok (.checkcast 69, 3) := dk_192 0 69 (dk_at dksX1_wash_2 0 rfl rfl)
theorem dX1_wash_49 : decode cX1_wash 49 = .ok (.iconst (-1), 1) := dk_2 (dk_at dksX1_wash_2 3 rfl rfl)
theorem dX1_wash_50 : decode cX1_wash 50 = .ok (.putfield 68, 3) := dk_181 0 68 (dk_at dksX1_wash_2 4 rfl rfl)
theorem dX1_wash_53 : decode cX1_wash 53 = .ok (.iload_n 3, 1) := dk_29 (dk_at dksX1_wash_2 7 rfl rfl)
theorem dX1_wash_54 : decode cX1_wash 54 = .ok (.ireturn, 1) := dk_172 (dk_at dksX1_wash_2 8 rfl rfl)
abbrev cX1_follow : ByteArray := prog_1_method_20_code
def yX1_follow : MethodName := ⟨RX1, "follow", "(II)Z"⟩
def dkwX1_follow_1 : List UInt8 := [4, 167, 0, 4, 3, 84, 42, 180, 0, 21, 27, 50, 28, 51, 172]
abbrev dktX1_follow_1 : List UInt8 := dkwX1_follow_1 ++ []
def dkwX1_follow_0 : List UInt8 := [27, 28, 7, 184, 0, 143, 42, 180, 0, 21, 27, 50, 28, 42, 180, 0, 21, 27, 50, 28, 51, 154, 0, 7]
abbrev dktX1_follow_0 : List UInt8 := dkwX1_follow_0 ++ dktX1_follow_1
theorem dksX1_follow_0 : cX1_follow.data.toList.drop 0 = dktX1_follow_0 := by decide +kernel
theorem dksX1_follow_1 : cX1_follow.data.toList.drop 24 = dktX1_follow_1 := dk_seg dksX1_follow_0 24 rfl rfl
theorem dX1_follow_0 : decode cX1_follow 0 = .ok (.iload_n 1, 1) := dk_27 (dk_at dksX1_follow_0 0 rfl rfl)
theorem dX1_follow_1 : decode cX1_follow 1 = .ok (.iload_n 2, 1) := dk_28 (dk_at dksX1_follow_0 1 rfl rfl)
theorem dX1_follow_2 : decode cX1_follow 2 = .ok (.iconst 4, 1) := dk_7 (dk_at dksX1_follow_0 2 rfl rfl)
theorem dX1_follow_3 : decode cX1_follow 3 = .ok (.invokestatic 143, 3) := dk_184 0 143 (dk_at dksX1_follow_0 3 rfl rfl)
theorem dX1_follow_6 : decode cX1_follow 6 = .ok (.aload_n 0, 1) := dk_42 (dk_at dksX1_follow_0 6 rfl rfl)
theorem dX1_follow_7 : decode cX1_follow 7 = .ok (.getfield 21, 3) := dk_180 0 21 (dk_at dksX1_follow_0 7 rfl rfl)
theorem dX1_follow_10 : decode cX1_follow 10 = .ok (.iload_n 1, 1) := dk_27 (dk_at dksX1_follow_0 10 rfl rfl)
theorem dX1_follow_11 : decode cX1_follow 11 = .ok (.aaload, 1) := dk_50 (dk_at dksX1_follow_0 11 rfl rfl)
theorem dX1_follow_12 : decode cX1_follow 12 = .ok (.iload_n 2, 1) := dk_28 (dk_at dksX1_follow_0 12 rfl rfl)
theorem dX1_follow_13 : decode cX1_follow 13 = .ok (.aload_n 0, 1) := dk_42 (dk_at dksX1_follow_0 13 rfl rfl)
theorem dX1_follow_14 : decode cX1_follow 14 = .ok (.getfield 21, 3) := dk_180 0 21 (dk_at dksX1_follow_0 14 rfl rfl)
theorem dX1_follow_17 : decode cX1_follow 17 = .ok (.iload_n 1, 1) := dk_27 (dk_at dksX1_follow_0 17 rfl rfl)
theorem dX1_follow_18 : decode cX1_follow 18 = .ok (.aaload, 1) := dk_50 (dk_at dksX1_follow_0 18 rfl rfl)
theorem dX1_follow_19 : decode cX1_follow 19 = .ok (.iload_n 2, 1) := dk_28 (dk_at dksX1_follow_0 19 rfl rfl)
theorem dX1_follow_20 : decode cX1_follow 20 = .ok (.baload, 1) := dk_51 (dk_at dksX1_follow_0 20 rfl rfl)
theorem dX1_follow_21 : decode cX1_follow 21 = .ok (.ifCond .ne 7, 3) := dk_154 0 7 (dk_at dksX1_follow_0 21 rfl rfl)
theorem dX1_follow_24 : decode cX1_follow 24 = .ok (.iconst 1, 1) := dk_4 (dk_at dksX1_follow_1 0 rfl rfl)
theorem dX1_follow_25 : decode cX1_follow 25 = .ok (.goto 4, 3) := dk_167 0 4 (dk_at dksX1_follow_1 1 rfl rfl)
theorem dX1_follow_28 : decode cX1_follow 28 = .ok (.iconst 0, 1) := dk_3 (dk_at dksX1_follow_1 4 rfl rfl)
theorem dX1_follow_29 : decode cX1_follow 29 = .ok (.bastore, 1) := dk_84 (dk_at dksX1_follow_1 5 rfl rfl)
theorem dX1_follow_30 : decode cX1_follow 30 = .ok (.aload_n 0, 1) := dk_42 (dk_at dksX1_follow_1 6 rfl rfl)
theorem dX1_follow_31 : decode cX1_follow 31 = .ok (.getfield 21, 3) := dk_180 0 21 (dk_at dksX1_follow_1 7 rfl rfl)
theorem dX1_follow_34 : decode cX1_follow 34 = .ok (.iload_n 1, 1) := dk_27 (dk_at dksX1_follow_1 10 rfl rfl)
theorem dX1_follow_35 : decode cX1_follow 35 = .ok (.aaload, 1) := dk_50 (dk_at dksX1_follow_1 11 rfl rfl)
theorem dX1_follow_36 : decode cX1_follow 36 = .ok (.iload_n 2, 1) := dk_28 (dk_at dksX1_follow_1 12 rfl rfl)
theorem dX1_follow_37 : decode cX1_follow 37 = .ok (.baload, 1) := dk_51 (dk_at dksX1_follow_1 13 rfl rfl)
theorem dX1_follow_38 : decode cX1_follow 38 = .ok (.ireturn, 1) := dk_172 (dk_at dksX1_follow_1 14 rfl rfl)
abbrev cX1_on : ByteArray := prog_1_method_21_code
def yX1_on : MethodName := ⟨RX1, "on", "(II)I"⟩
def dkwX1_on_0 : List UInt8 := [42, 180, 0, 10, 27, 28, 184, 0, 160, 182, 0, 74, 192, 0, 47, 182, 0, 78, 172]
abbrev dktX1_on_0 : List UInt8 := dkwX1_on_0 ++ []
theorem dksX1_on_0 : cX1_on.data.toList.drop 0 = dktX1_on_0 := by decide +kernel
theorem dX1_on_0 : decode cX1_on 0 = .ok (.aload_n 0, 1) := dk_42 (dk_at dksX1_on_0 0 rfl rfl)
theorem dX1_on_1 : decode cX1_on 1 = .ok (.getfield 10, 3) := dk_180 0 10 (dk_at dksX1_on_0 1 rfl rfl)
theorem dX1_on_4 : decode cX1_on 4 = .ok (.iload_n 1, 1) := dk_27 (dk_at dksX1_on_0 4 rfl rfl)
theorem dX1_on_5 : decode cX1_on 5 = .ok (.iload_n 2, 1) := dk_28 (dk_at dksX1_on_0 5 rfl rfl)
theorem dX1_on_6 : decode cX1_on 6 = .ok (.invokestatic 160, 3) := dk_184 0 160 (dk_at dksX1_on_0 6 rfl rfl)
theorem dX1_on_9 : decode cX1_on 9 = .ok (.invokevirtual 74, 3) := dk_182 0 74 (dk_at dksX1_on_0 9 rfl rfl)
theorem dX1_on_12 : decode cX1_on 12 = .ok (.checkcast 47, 3) := dk_192 0 47 (dk_at dksX1_on_0 12 rfl rfl)
theorem dX1_on_15 : decode cX1_on 15 = .ok (.invokevirtual 78, 3) := dk_182 0 78 (dk_at dksX1_on_0 15 rfl rfl)
theorem dX1_on_18 : decode cX1_on 18 = .ok (.ireturn, 1) := dk_172 (dk_at dksX1_on_0 18 rfl rfl)
abbrev cX1_at : ByteArray := prog_1_method_22_code
def yX1_at : MethodName := ⟨RX1, "at", "(III)I"⟩
def dkwX1_at_1 : List UInt8 := [184, 0, 147, 25, 4, 29, 182, 0, 88, 192, 0, 69, 180, 0, 170, 172]
abbrev dktX1_at_1 : List UInt8 := dkwX1_at_1 ++ []
def dkwX1_at_0 : List UInt8 := [42, 180, 0, 10, 27, 28, 184, 0, 160, 182, 0, 74, 192, 0, 47, 58, 4, 29, 25, 4, 182, 0, 78]
abbrev dktX1_at_0 : List UInt8 := dkwX1_at_0 ++ dktX1_at_1
theorem dksX1_at_0 : cX1_at.data.toList.drop 0 = dktX1_at_0 := by decide +kernel
theorem dksX1_at_1 : cX1_at.data.toList.drop 23 = dktX1_at_1 := dk_seg dksX1_at_0 23 rfl rfl
theorem dX1_at_0 : decode cX1_at 0 = .ok (.aload_n 0, 1) := dk_42 (dk_at dksX1_at_0 0 rfl rfl)
theorem dX1_at_1 : decode cX1_at 1 = .ok (.getfield 10, 3) := dk_180 0 10 (dk_at dksX1_at_0 1 rfl rfl)
theorem dX1_at_4 : decode cX1_at 4 = .ok (.iload_n 1, 1) := dk_27 (dk_at dksX1_at_0 4 rfl rfl)
theorem dX1_at_5 : decode cX1_at 5 = .ok (.iload_n 2, 1) := dk_28 (dk_at dksX1_at_0 5 rfl rfl)
theorem dX1_at_6 : decode cX1_at 6 = .ok (.invokestatic 160, 3) := dk_184 0 160 (dk_at dksX1_at_0 6 rfl rfl)
theorem dX1_at_9 : decode cX1_at 9 = .ok (.invokevirtual 74, 3) := dk_182 0 74 (dk_at dksX1_at_0 9 rfl rfl)
theorem dX1_at_12 : decode cX1_at 12 = .ok (.checkcast 47, 3) := dk_192 0 47 (dk_at dksX1_at_0 12 rfl rfl)
theorem dX1_at_15 : decode cX1_at 15 = .ok (.astore 4, 2) := dk_58 4 (dk_at dksX1_at_0 15 rfl rfl)
theorem dX1_at_17 : decode cX1_at 17 = .ok (.iload_n 3, 1) := dk_29 (dk_at dksX1_at_0 17 rfl rfl)
theorem dX1_at_18 : decode cX1_at 18 = .ok (.aload 4, 2) := dk_25 4 (dk_at dksX1_at_0 18 rfl rfl)
theorem dX1_at_20 : decode cX1_at 20 = .ok (.invokevirtual 78, 3) := dk_182 0 78 (dk_at dksX1_at_0 20 rfl rfl)
theorem dX1_at_23 : decode cX1_at 23 = .ok (.invokestatic 147, 3) := dk_184 0 147 (dk_at dksX1_at_1 0 rfl rfl)
theorem dX1_at_26 : decode cX1_at 26 = .ok (.aload 4, 2) := dk_25 4 (dk_at dksX1_at_1 3 rfl rfl)
theorem dX1_at_28 : decode cX1_at 28 = .ok (.iload_n 3, 1) := dk_29 (dk_at dksX1_at_1 5 rfl rfl)
theorem dX1_at_29 : decode cX1_at 29 = .ok (.invokevirtual 88, 3) := dk_182 0 88 (dk_at dksX1_at_1 6 rfl rfl)
theorem dX1_at_32 : decode cX1_at 32 = .ok (.checkcast 69, 3) := dk_192 0 69 (dk_at dksX1_at_1 9 rfl rfl)
theorem dX1_at_35 : decode cX1_at 35 = .ok (.getfield 170, 3) := dk_180 0 170 (dk_at dksX1_at_1 12 rfl rfl)
theorem dX1_at_38 : decode cX1_at 38 = .ok (.ireturn, 1) := dk_172 (dk_at dksX1_at_1 15 rfl rfl)
abbrev cX1_there : ByteArray := prog_1_method_9_code
def yX1_there : MethodName := ⟨RX1, "there", "(II)V"⟩
def dkwX1_there_0 : List UInt8 := [26, 155, 0, 8, 26, 27, 161, 0, 11, 187, 0, 136, 89, 183, 0, 138, 191, 177]
abbrev dktX1_there_0 : List UInt8 := dkwX1_there_0 ++ []
theorem dksX1_there_0 : cX1_there.data.toList.drop 0 = dktX1_there_0 := by decide +kernel
theorem dX1_there_0 : decode cX1_there 0 = .ok (.iload_n 0, 1) := dk_26 (dk_at dksX1_there_0 0 rfl rfl)
theorem dX1_there_1 : decode cX1_there 1 = .ok (.ifCond .lt 8, 3) := dk_155 0 8 (dk_at dksX1_there_0 1 rfl rfl)
theorem dX1_there_4 : decode cX1_there 4 = .ok (.iload_n 0, 1) := dk_26 (dk_at dksX1_there_0 4 rfl rfl)
theorem dX1_there_5 : decode cX1_there 5 = .ok (.iload_n 1, 1) := dk_27 (dk_at dksX1_there_0 5 rfl rfl)
theorem dX1_there_6 : decode cX1_there 6 = .ok (.if_icmp .lt 11, 3) := dk_161 0 11 (dk_at dksX1_there_0 6 rfl rfl)
theorem dX1_there_9 : decode cX1_there 9 = .ok (.new 136, 3) := dk_187 0 136 (dk_at dksX1_there_0 9 rfl rfl)
theorem dX1_there_12 : decode cX1_there 12 = .ok (.dup, 1) := dk_89 (dk_at dksX1_there_0 12 rfl rfl)
theorem dX1_there_13 : decode cX1_there 13 = .ok (.invokespecial 138, 3) := dk_183 0 138 (dk_at dksX1_there_0 13 rfl rfl)
theorem dX1_there_16 : decode cX1_there 16 = .ok (.athrow, 1) := dk_191 (dk_at dksX1_there_0 16 rfl rfl)
theorem dX1_there_17 : decode cX1_there 17 = .ok (.return_, 1) := dk_177 (dk_at dksX1_there_0 17 rfl rfl)
abbrev cX1_atByReplay : ByteArray := prog_1_method_23_code
def yX1_atByReplay : MethodName := ⟨RX1, "atByReplay", "(III)I"⟩
def dkwX1_atByReplay_1 : List UInt8 := [21, 4, 46, 184, 0, 147, 25, 5, 180, 0, 206, 21, 4, 50, 29, 46, 172]
abbrev dktX1_atByReplay_1 : List UInt8 := dkwX1_atByReplay_1 ++ []
def dkwX1_atByReplay_0 : List UInt8 := [27, 28, 184, 0, 160, 54, 4, 187, 0, 198, 89, 42, 183, 0, 200, 58, 5, 29, 25, 5, 180, 0, 203]
abbrev dktX1_atByReplay_0 : List UInt8 := dkwX1_atByReplay_0 ++ dktX1_atByReplay_1
theorem dksX1_atByReplay_0 : cX1_atByReplay.data.toList.drop 0 = dktX1_atByReplay_0 := by decide +kernel
theorem dksX1_atByReplay_1 : cX1_atByReplay.data.toList.drop 23 = dktX1_atByReplay_1 := dk_seg dksX1_atByReplay_0 23 rfl rfl
theorem dX1_atByReplay_0 : decode cX1_atByReplay 0 = .ok (.iload_n 1, 1) := dk_27 (dk_at dksX1_atByReplay_0 0 rfl rfl)
theorem dX1_atByReplay_1 : decode cX1_atByReplay 1 = .ok (.iload_n 2, 1) := dk_28 (dk_at dksX1_atByReplay_0 1 rfl rfl)
theorem dX1_atByReplay_2 : decode cX1_atByReplay 2 = .ok (.invokestatic 160, 3) := dk_184 0 160 (dk_at dksX1_atByReplay_0 2 rfl rfl)
theorem dX1_atByReplay_5 : decode cX1_atByReplay 5 = .ok (.istore 4, 2) := dk_54 4 (dk_at dksX1_atByReplay_0 5 rfl rfl)
theorem dX1_atByReplay_7 : decode cX1_atByReplay 7 = .ok (.new 198, 3) := dk_187 0 198 (dk_at dksX1_atByReplay_0 7 rfl rfl)
theorem dX1_atByReplay_10 : decode cX1_atByReplay 10 = .ok (.dup, 1) := dk_89 (dk_at dksX1_atByReplay_0 10 rfl rfl)
theorem dX1_atByReplay_11 : decode cX1_atByReplay 11 = .ok (.aload_n 0, 1) := dk_42 (dk_at dksX1_atByReplay_0 11 rfl rfl)
theorem dX1_atByReplay_12 : decode cX1_atByReplay 12 = .ok (.invokespecial 200, 3) := dk_183 0 200 (dk_at dksX1_atByReplay_0 12 rfl rfl)
theorem dX1_atByReplay_15 : decode cX1_atByReplay 15 = .ok (.astore 5, 2) := dk_58 5 (dk_at dksX1_atByReplay_0 15 rfl rfl)
theorem dX1_atByReplay_17 : decode cX1_atByReplay 17 = .ok (.iload_n 3, 1) := dk_29 (dk_at dksX1_atByReplay_0 17 rfl rfl)
theorem dX1_atByReplay_18 : decode cX1_atByReplay 18 = .ok (.aload 5, 2) := dk_25 5 (dk_at dksX1_atByReplay_0 18 rfl rfl)
theorem dX1_atByReplay_20 : decode cX1_atByReplay 20 = .ok (.getfield 203, 3) := dk_180 0 203 (dk_at dksX1_atByReplay_0 20 rfl rfl)
theorem dX1_atByReplay_23 : decode cX1_atByReplay 23 = .ok (.iload 4, 2) := dk_21 4 (dk_at dksX1_atByReplay_1 0 rfl rfl)
theorem dX1_atByReplay_25 : decode cX1_atByReplay 25 = .ok (.iaload, 1) := dk_46 (dk_at dksX1_atByReplay_1 2 rfl rfl)
theorem dX1_atByReplay_26 : decode cX1_atByReplay 26 = .ok (.invokestatic 147, 3) := dk_184 0 147 (dk_at dksX1_atByReplay_1 3 rfl rfl)
theorem dX1_atByReplay_29 : decode cX1_atByReplay 29 = .ok (.aload 5, 2) := dk_25 5 (dk_at dksX1_atByReplay_1 6 rfl rfl)
theorem dX1_atByReplay_31 : decode cX1_atByReplay 31 = .ok (.getfield 206, 3) := dk_180 0 206 (dk_at dksX1_atByReplay_1 8 rfl rfl)
theorem dX1_atByReplay_34 : decode cX1_atByReplay 34 = .ok (.iload 4, 2) := dk_21 4 (dk_at dksX1_atByReplay_1 11 rfl rfl)
theorem dX1_atByReplay_36 : decode cX1_atByReplay 36 = .ok (.aaload, 1) := dk_50 (dk_at dksX1_atByReplay_1 13 rfl rfl)
theorem dX1_atByReplay_37 : decode cX1_atByReplay 37 = .ok (.iload_n 3, 1) := dk_29 (dk_at dksX1_atByReplay_1 14 rfl rfl)
theorem dX1_atByReplay_38 : decode cX1_atByReplay 38 = .ok (.iaload, 1) := dk_46 (dk_at dksX1_atByReplay_1 15 rfl rfl)
theorem dX1_atByReplay_39 : decode cX1_atByReplay 39 = .ok (.ireturn, 1) := dk_172 (dk_at dksX1_atByReplay_1 16 rfl rfl)
abbrev cX1_where : ByteArray := prog_1_method_24_code
def yX1_where : MethodName := ⟨RX1, "where", "(I)I"⟩
def dkwX1_where_1 : List UInt8 := [8, 108, 104, 44, 180, 0, 185, 8, 112, 96, 172]
abbrev dktX1_where_1 : List UInt8 := dkwX1_where_1 ++ []
def dkwX1_where_0 : List UInt8 := [42, 27, 182, 0, 210, 77, 44, 180, 0, 185, 2, 160, 0, 7, 2, 167, 0, 19, 16, 10, 44, 180, 0, 185]
abbrev dktX1_where_0 : List UInt8 := dkwX1_where_0 ++ dktX1_where_1
theorem dksX1_where_0 : cX1_where.data.toList.drop 0 = dktX1_where_0 := by decide +kernel
theorem dksX1_where_1 : cX1_where.data.toList.drop 24 = dktX1_where_1 := dk_seg dksX1_where_0 24 rfl rfl
theorem dX1_where_0 : decode cX1_where 0 = .ok (.aload_n 0, 1) := dk_42 (dk_at dksX1_where_0 0 rfl rfl)
theorem dX1_where_1 : decode cX1_where 1 = .ok (.iload_n 1, 1) := dk_27 (dk_at dksX1_where_0 1 rfl rfl)
theorem dX1_where_2 : decode cX1_where 2 = .ok (.invokevirtual 210, 3) := dk_182 0 210 (dk_at dksX1_where_0 2 rfl rfl)
theorem dX1_where_5 : decode cX1_where 5 = .ok (.astore_n 2, 1) := dk_77 (dk_at dksX1_where_0 5 rfl rfl)
theorem dX1_where_6 : decode cX1_where 6 = .ok (.aload_n 2, 1) := dk_44 (dk_at dksX1_where_0 6 rfl rfl)
theorem dX1_where_7 : decode cX1_where 7 = .ok (.getfield 185, 3) := dk_180 0 185 (dk_at dksX1_where_0 7 rfl rfl)
theorem dX1_where_10 : decode cX1_where 10 = .ok (.iconst (-1), 1) := dk_2 (dk_at dksX1_where_0 10 rfl rfl)
theorem dX1_where_11 : decode cX1_where 11 = .ok (.if_icmp .ne 7, 3) := dk_160 0 7 (dk_at dksX1_where_0 11 rfl rfl)
theorem dX1_where_14 : decode cX1_where 14 = .ok (.iconst (-1), 1) := dk_2 (dk_at dksX1_where_0 14 rfl rfl)
theorem dX1_where_15 : decode cX1_where 15 = .ok (.goto 19, 3) := dk_167 0 19 (dk_at dksX1_where_0 15 rfl rfl)
theorem dX1_where_18 : decode cX1_where 18 = .ok (.bipush 10, 2) := dk_16 10 (dk_at dksX1_where_0 18 rfl rfl)
theorem dX1_where_20 : decode cX1_where 20 = .ok (.aload_n 2, 1) := dk_44 (dk_at dksX1_where_0 20 rfl rfl)
theorem dX1_where_21 : decode cX1_where 21 = .ok (.getfield 185, 3) := dk_180 0 185 (dk_at dksX1_where_0 21 rfl rfl)
theorem dX1_where_24 : decode cX1_where 24 = .ok (.iconst 5, 1) := dk_8 (dk_at dksX1_where_1 0 rfl rfl)
theorem dX1_where_25 : decode cX1_where 25 = .ok (.idiv, 1) := dk_108 (dk_at dksX1_where_1 1 rfl rfl)
theorem dX1_where_26 : decode cX1_where 26 = .ok (.imul, 1) := dk_104 (dk_at dksX1_where_1 2 rfl rfl)
theorem dX1_where_27 : decode cX1_where 27 = .ok (.aload_n 2, 1) := dk_44 (dk_at dksX1_where_1 3 rfl rfl)
theorem dX1_where_28 : decode cX1_where 28 = .ok (.getfield 185, 3) := dk_180 0 185 (dk_at dksX1_where_1 4 rfl rfl)
theorem dX1_where_31 : decode cX1_where 31 = .ok (.iconst 5, 1) := dk_8 (dk_at dksX1_where_1 7 rfl rfl)
theorem dX1_where_32 : decode cX1_where 32 = .ok (.irem, 1) := dk_112 (dk_at dksX1_where_1 8 rfl rfl)
theorem dX1_where_33 : decode cX1_where 33 = .ok (.iadd, 1) := dk_96 (dk_at dksX1_where_1 9 rfl rfl)
theorem dX1_where_34 : decode cX1_where 34 = .ok (.ireturn, 1) := dk_172 (dk_at dksX1_where_1 10 rfl rfl)
abbrev cX1_wagonAt : ByteArray := prog_1_method_16_code
def yX1_wagonAt : MethodName := ⟨RX1, "wagonAt", "(I)LTrunkYards$Wagon;"⟩
def dkwX1_wagonAt_0 : List UInt8 := [27, 42, 180, 0, 16, 182, 0, 146, 184, 0, 147, 42, 180, 0, 16, 27, 182, 0, 74, 192, 0, 69, 176]
abbrev dktX1_wagonAt_0 : List UInt8 := dkwX1_wagonAt_0 ++ []
theorem dksX1_wagonAt_0 : cX1_wagonAt.data.toList.drop 0 = dktX1_wagonAt_0 := by decide +kernel
theorem dX1_wagonAt_0 : decode cX1_wagonAt 0 = .ok (.iload_n 1, 1) := dk_27 (dk_at dksX1_wagonAt_0 0 rfl rfl)
theorem dX1_wagonAt_1 : decode cX1_wagonAt 1 = .ok (.aload_n 0, 1) := dk_42 (dk_at dksX1_wagonAt_0 1 rfl rfl)
theorem dX1_wagonAt_2 : decode cX1_wagonAt 2 = .ok (.getfield 16, 3) := dk_180 0 16 (dk_at dksX1_wagonAt_0 2 rfl rfl)
theorem dX1_wagonAt_5 : decode cX1_wagonAt 5 = .ok (.invokevirtual 146, 3) := dk_182 0 146 (dk_at dksX1_wagonAt_0 5 rfl rfl)
theorem dX1_wagonAt_8 : decode cX1_wagonAt 8 = .ok (.invokestatic 147, 3) := dk_184 0 147 (dk_at dksX1_wagonAt_0 8 rfl rfl)
theorem dX1_wagonAt_11 : decode cX1_wagonAt 11 = .ok (.aload_n 0, 1) := dk_42 (dk_at dksX1_wagonAt_0 11 rfl rfl)
theorem dX1_wagonAt_12 : decode cX1_wagonAt 12 = .ok (.getfield 16, 3) := dk_180 0 16 (dk_at dksX1_wagonAt_0 12 rfl rfl)
theorem dX1_wagonAt_15 : decode cX1_wagonAt 15 = .ok (.iload_n 1, 1) := dk_27 (dk_at dksX1_wagonAt_0 15 rfl rfl)
theorem dX1_wagonAt_16 : decode cX1_wagonAt 16 = .ok (.invokevirtual 74, 3) := dk_182 0 74 (dk_at dksX1_wagonAt_0 16 rfl rfl)
theorem dX1_wagonAt_19 : decode cX1_wagonAt 19 = .ok (.checkcast 69, 3) := dk_192 0 69 (dk_at dksX1_wagonAt_0 19 rfl rfl)
theorem dX1_wagonAt_22 : decode cX1_wagonAt 22 = .ok (.areturn, 1) := dk_176 (dk_at dksX1_wagonAt_0 22 rfl rfl)
abbrev cX1_carried : ByteArray := prog_1_method_25_code
def yX1_carried : MethodName := ⟨RX1, "carried", "(I)I"⟩
def dkwX1_carried_0 : List UInt8 := [42, 27, 182, 0, 210, 180, 0, 68, 172]
abbrev dktX1_carried_0 : List UInt8 := dkwX1_carried_0 ++ []
theorem dksX1_carried_0 : cX1_carried.data.toList.drop 0 = dktX1_carried_0 := by decide +kernel
theorem dX1_carried_0 : decode cX1_carried 0 = .ok (.aload_n 0, 1) := dk_42 (dk_at dksX1_carried_0 0 rfl rfl)
theorem dX1_carried_1 : decode cX1_carried 1 = .ok (.iload_n 1, 1) := dk_27 (dk_at dksX1_carried_0 1 rfl rfl)
theorem dX1_carried_2 : decode cX1_carried 2 = .ok (.invokevirtual 210, 3) := dk_182 0 210 (dk_at dksX1_carried_0 2 rfl rfl)
theorem dX1_carried_5 : decode cX1_carried 5 = .ok (.getfield 68, 3) := dk_180 0 68 (dk_at dksX1_carried_0 5 rfl rfl)
theorem dX1_carried_8 : decode cX1_carried 8 = .ok (.ireturn, 1) := dk_172 (dk_at dksX1_carried_0 8 rfl rfl)
abbrev cX1_promised : ByteArray := prog_1_method_26_code
def yX1_promised : MethodName := ⟨RX1, "promised", "(I)I"⟩
def dkwX1_promised_1 : List UInt8 := [172]
abbrev dktX1_promised_1 : List UInt8 := dkwX1_promised_1 ++ []
def dkwX1_promised_0 : List UInt8 := [42, 27, 182, 0, 210, 77, 44, 180, 0, 89, 199, 0, 7, 2, 167, 0, 10, 44, 180, 0, 89, 180, 0, 214]
abbrev dktX1_promised_0 : List UInt8 := dkwX1_promised_0 ++ dktX1_promised_1
theorem dksX1_promised_0 : cX1_promised.data.toList.drop 0 = dktX1_promised_0 := by decide +kernel
theorem dksX1_promised_1 : cX1_promised.data.toList.drop 24 = dktX1_promised_1 := dk_seg dksX1_promised_0 24 rfl rfl
theorem dX1_promised_0 : decode cX1_promised 0 = .ok (.aload_n 0, 1) := dk_42 (dk_at dksX1_promised_0 0 rfl rfl)
theorem dX1_promised_1 : decode cX1_promised 1 = .ok (.iload_n 1, 1) := dk_27 (dk_at dksX1_promised_0 1 rfl rfl)
theorem dX1_promised_2 : decode cX1_promised 2 = .ok (.invokevirtual 210, 3) := dk_182 0 210 (dk_at dksX1_promised_0 2 rfl rfl)
theorem dX1_promised_5 : decode cX1_promised 5 = .ok (.astore_n 2, 1) := dk_77 (dk_at dksX1_promised_0 5 rfl rfl)
theorem dX1_promised_6 : decode cX1_promised 6 = .ok (.aload_n 2, 1) := dk_44 (dk_at dksX1_promised_0 6 rfl rfl)
theorem dX1_promised_7 : decode cX1_promised 7 = .ok (.getfield 89, 3) := dk_180 0 89 (dk_at dksX1_promised_0 7 rfl rfl)
theorem dX1_promised_10 : decode cX1_promised 10 = .ok (.ifnonnull 7, 3) := dk_199 0 7 (dk_at dksX1_promised_0 10 rfl rfl)
theorem dX1_promised_13 : decode cX1_promised 13 = .ok (.iconst (-1), 1) := dk_2 (dk_at dksX1_promised_0 13 rfl rfl)
theorem dX1_promised_14 : decode cX1_promised 14 = .ok (.goto 10, 3) := dk_167 0 10 (dk_at dksX1_promised_0 14 rfl rfl)
theorem dX1_promised_17 : decode cX1_promised 17 = .ok (.aload_n 2, 1) := dk_44 (dk_at dksX1_promised_0 17 rfl rfl)
theorem dX1_promised_18 : decode cX1_promised 18 = .ok (.getfield 89, 3) := dk_180 0 89 (dk_at dksX1_promised_0 18 rfl rfl)
theorem dX1_promised_21 : decode cX1_promised 21 = .ok (.getfield 214, 3) := dk_180 0 214 (dk_at dksX1_promised_0 21 rfl rfl)
theorem dX1_promised_24 : decode cX1_promised 24 = .ok (.ireturn, 1) := dk_172 (dk_at dksX1_promised_1 0 rfl rfl)
abbrev cX1_call : ByteArray := prog_1_method_28_code
def yX1_call : MethodName := ⟨RX1, "call", "(II)I"⟩
def dkwX1_call_5 : List UInt8 := [42, 180, 0, 35, 182, 0, 146, 4, 100, 172]
abbrev dktX1_call_5 : List UInt8 := dkwX1_call_5 ++ []
def dkwX1_call_4 : List UInt8 := [180, 0, 35, 187, 0, 121, 89, 42, 180, 0, 35, 182, 0, 146, 27, 28, 45, 183, 0, 233, 182, 0, 50, 87]
abbrev dktX1_call_4 : List UInt8 := dkwX1_call_4 ++ dktX1_call_5
def dkwX1_call_3 : List UInt8 := [167, 0, 4, 1, 78, 45, 199, 0, 15, 42, 89, 180, 0, 230, 4, 96, 181, 0, 230, 2, 172, 42]
abbrev dktX1_call_3 : List UInt8 := dkwX1_call_3 ++ dktX1_call_4
def dkwX1_call_2 : List UInt8 := [42, 180, 0, 31, 28, 46, 162, 0, 21, 42, 27, 6, 112, 28, 187, 0, 7, 89, 183, 0, 9, 182, 0, 226]
abbrev dktX1_call_2 : List UInt8 := dkwX1_call_2 ++ dktX1_call_3
def dkwX1_call_1 : List UInt8 := [180, 0, 35, 182, 0, 146, 16, 60, 162, 0, 7, 4, 167, 0, 4, 3, 184, 0, 154, 42, 28, 182, 0, 223]
abbrev dktX1_call_1 : List UInt8 := dkwX1_call_1 ++ dktX1_call_2
def dkwX1_call_0 : List UInt8 := [27, 3, 8, 184, 0, 139, 28, 3, 5, 184, 0, 139, 42, 27, 182, 0, 219, 2, 160, 0, 19, 42]
abbrev dktX1_call_0 : List UInt8 := dkwX1_call_0 ++ dktX1_call_1
theorem dksX1_call_0 : cX1_call.data.toList.drop 0 = dktX1_call_0 := by decide +kernel
theorem dksX1_call_1 : cX1_call.data.toList.drop 22 = dktX1_call_1 := dk_seg dksX1_call_0 22 rfl rfl
theorem dksX1_call_2 : cX1_call.data.toList.drop 46 = dktX1_call_2 := dk_seg dksX1_call_1 24 rfl rfl
theorem dksX1_call_3 : cX1_call.data.toList.drop 70 = dktX1_call_3 := dk_seg dksX1_call_2 24 rfl rfl
theorem dksX1_call_4 : cX1_call.data.toList.drop 92 = dktX1_call_4 := dk_seg dksX1_call_3 22 rfl rfl
theorem dksX1_call_5 : cX1_call.data.toList.drop 116 = dktX1_call_5 := dk_seg dksX1_call_4 24 rfl rfl
theorem dX1_call_0 : decode cX1_call 0 = .ok (.iload_n 1, 1) := dk_27 (dk_at dksX1_call_0 0 rfl rfl)
theorem dX1_call_1 : decode cX1_call 1 = .ok (.iconst 0, 1) := dk_3 (dk_at dksX1_call_0 1 rfl rfl)
theorem dX1_call_2 : decode cX1_call 2 = .ok (.iconst 5, 1) := dk_8 (dk_at dksX1_call_0 2 rfl rfl)
theorem dX1_call_3 : decode cX1_call 3 = .ok (.invokestatic 139, 3) := dk_184 0 139 (dk_at dksX1_call_0 3 rfl rfl)
theorem dX1_call_6 : decode cX1_call 6 = .ok (.iload_n 2, 1) := dk_28 (dk_at dksX1_call_0 6 rfl rfl)
theorem dX1_call_7 : decode cX1_call 7 = .ok (.iconst 0, 1) := dk_3 (dk_at dksX1_call_0 7 rfl rfl)
theorem dX1_call_8 : decode cX1_call 8 = .ok (.iconst 2, 1) := dk_5 (dk_at dksX1_call_0 8 rfl rfl)
theorem dX1_call_9 : decode cX1_call 9 = .ok (.invokestatic 139, 3) := dk_184 0 139 (dk_at dksX1_call_0 9 rfl rfl)
theorem dX1_call_12 : decode cX1_call 12 = .ok (.aload_n 0, 1) := dk_42 (dk_at dksX1_call_0 12 rfl rfl)
theorem dX1_call_13 : decode cX1_call 13 = .ok (.iload_n 1, 1) := dk_27 (dk_at dksX1_call_0 13 rfl rfl)
theorem dX1_call_14 : decode cX1_call 14 = .ok (.invokevirtual 219, 3) := dk_182 0 219 (dk_at dksX1_call_0 14 rfl rfl)
theorem dX1_call_17 : decode cX1_call 17 = .ok (.iconst (-1), 1) := dk_2 (dk_at dksX1_call_0 17 rfl rfl)
theorem dX1_call_18 : decode cX1_call 18 = .ok (.if_icmp .ne 19, 3) := dk_160 0 19 (dk_at dksX1_call_0 18 rfl rfl)
theorem dX1_call_21 : decode cX1_call 21 = .ok (.aload_n 0, 1) := dk_42 (dk_at dksX1_call_0 21 rfl rfl)
theorem dX1_call_22 : decode cX1_call 22 = .ok (.getfield 35, 3) := dk_180 0 35 (dk_at dksX1_call_1 0 rfl rfl)
theorem dX1_call_25 : decode cX1_call 25 = .ok (.invokevirtual 146, 3) := dk_182 0 146 (dk_at dksX1_call_1 3 rfl rfl)
theorem dX1_call_28 : decode cX1_call 28 = .ok (.bipush 60, 2) := dk_16 60 (dk_at dksX1_call_1 6 rfl rfl)
theorem dX1_call_30 : decode cX1_call 30 = .ok (.if_icmp .ge 7, 3) := dk_162 0 7 (dk_at dksX1_call_1 8 rfl rfl)
theorem dX1_call_33 : decode cX1_call 33 = .ok (.iconst 1, 1) := dk_4 (dk_at dksX1_call_1 11 rfl rfl)
theorem dX1_call_34 : decode cX1_call 34 = .ok (.goto 4, 3) := dk_167 0 4 (dk_at dksX1_call_1 12 rfl rfl)
theorem dX1_call_37 : decode cX1_call 37 = .ok (.iconst 0, 1) := dk_3 (dk_at dksX1_call_1 15 rfl rfl)
theorem dX1_call_38 : decode cX1_call 38 = .ok (.invokestatic 154, 3) := dk_184 0 154 (dk_at dksX1_call_1 16 rfl rfl)
theorem dX1_call_41 : decode cX1_call 41 = .ok (.aload_n 0, 1) := dk_42 (dk_at dksX1_call_1 19 rfl rfl)
theorem dX1_call_42 : decode cX1_call 42 = .ok (.iload_n 2, 1) := dk_28 (dk_at dksX1_call_1 20 rfl rfl)
theorem dX1_call_43 : decode cX1_call 43 = .ok (.invokevirtual 223, 3) := dk_182 0 223 (dk_at dksX1_call_1 21 rfl rfl)
theorem dX1_call_46 : decode cX1_call 46 = .ok (.aload_n 0, 1) := dk_42 (dk_at dksX1_call_2 0 rfl rfl)
theorem dX1_call_47 : decode cX1_call 47 = .ok (.getfield 31, 3) := dk_180 0 31 (dk_at dksX1_call_2 1 rfl rfl)
theorem dX1_call_50 : decode cX1_call 50 = .ok (.iload_n 2, 1) := dk_28 (dk_at dksX1_call_2 4 rfl rfl)
theorem dX1_call_51 : decode cX1_call 51 = .ok (.iaload, 1) := dk_46 (dk_at dksX1_call_2 5 rfl rfl)
theorem dX1_call_52 : decode cX1_call 52 = .ok (.if_icmp .ge 21, 3) := dk_162 0 21 (dk_at dksX1_call_2 6 rfl rfl)
theorem dX1_call_55 : decode cX1_call 55 = .ok (.aload_n 0, 1) := dk_42 (dk_at dksX1_call_2 9 rfl rfl)
theorem dX1_call_56 : decode cX1_call 56 = .ok (.iload_n 1, 1) := dk_27 (dk_at dksX1_call_2 10 rfl rfl)
theorem dX1_call_57 : decode cX1_call 57 = .ok (.iconst 3, 1) := dk_6 (dk_at dksX1_call_2 11 rfl rfl)
theorem dX1_call_58 : decode cX1_call 58 = .ok (.irem, 1) := dk_112 (dk_at dksX1_call_2 12 rfl rfl)
theorem dX1_call_59 : decode cX1_call 59 = .ok (.iload_n 2, 1) := dk_28 (dk_at dksX1_call_2 13 rfl rfl)
theorem dX1_call_60 : decode cX1_call 60 = .ok (.new 7, 3) := dk_187 0 7 (dk_at dksX1_call_2 14 rfl rfl)
theorem dX1_call_63 : decode cX1_call 63 = .ok (.dup, 1) := dk_89 (dk_at dksX1_call_2 17 rfl rfl)
theorem dX1_call_64 : decode cX1_call 64 = .ok (.invokespecial 9, 3) := dk_183 0 9 (dk_at dksX1_call_2 18 rfl rfl)
theorem dX1_call_67 : decode cX1_call 67 = .ok (.invokevirtual 226, 3) := dk_182 0 226 (dk_at dksX1_call_2 21 rfl rfl)
theorem dX1_call_70 : decode cX1_call 70 = .ok (.goto 4, 3) := dk_167 0 4 (dk_at dksX1_call_3 0 rfl rfl)
theorem dX1_call_73 : decode cX1_call 73 = .ok (.aconst_null, 1) := dk_1 (dk_at dksX1_call_3 3 rfl rfl)
theorem dX1_call_74 : decode cX1_call 74 = .ok (.astore_n 3, 1) := dk_78 (dk_at dksX1_call_3 4 rfl rfl)
theorem dX1_call_75 : decode cX1_call 75 = .ok (.aload_n 3, 1) := dk_45 (dk_at dksX1_call_3 5 rfl rfl)
theorem dX1_call_76 : decode cX1_call 76 = .ok (.ifnonnull 15, 3) := dk_199 0 15 (dk_at dksX1_call_3 6 rfl rfl)
theorem dX1_call_79 : decode cX1_call 79 = .ok (.aload_n 0, 1) := dk_42 (dk_at dksX1_call_3 9 rfl rfl)
theorem dX1_call_80 : decode cX1_call 80 = .ok (.dup, 1) := dk_89 (dk_at dksX1_call_3 10 rfl rfl)
theorem dX1_call_81 : decode cX1_call 81 = .ok (.getfield 230, 3) := dk_180 0 230 (dk_at dksX1_call_3 11 rfl rfl)
theorem dX1_call_84 : decode cX1_call 84 = .ok (.iconst 1, 1) := dk_4 (dk_at dksX1_call_3 14 rfl rfl)
theorem dX1_call_85 : decode cX1_call 85 = .ok (.iadd, 1) := dk_96 (dk_at dksX1_call_3 15 rfl rfl)
theorem dX1_call_86 : decode cX1_call 86 = .ok (.putfield 230, 3) := dk_181 0 230 (dk_at dksX1_call_3 16 rfl rfl)
theorem dX1_call_89 : decode cX1_call 89 = .ok (.iconst (-1), 1) := dk_2 (dk_at dksX1_call_3 19 rfl rfl)
theorem dX1_call_90 : decode cX1_call 90 = .ok (.ireturn, 1) := dk_172 (dk_at dksX1_call_3 20 rfl rfl)
theorem dX1_call_91 : decode cX1_call 91 = .ok (.aload_n 0, 1) := dk_42 (dk_at dksX1_call_3 21 rfl rfl)
theorem dX1_call_92 : decode cX1_call 92 = .ok (.getfield 35, 3) := dk_180 0 35 (dk_at dksX1_call_4 0 rfl rfl)
theorem dX1_call_95 : decode cX1_call 95 = .ok (.new 121, 3) := dk_187 0 121 (dk_at dksX1_call_4 3 rfl rfl)
theorem dX1_call_98 : decode cX1_call 98 = .ok (.dup, 1) := dk_89 (dk_at dksX1_call_4 6 rfl rfl)
theorem dX1_call_99 : decode cX1_call 99 = .ok (.aload_n 0, 1) := dk_42 (dk_at dksX1_call_4 7 rfl rfl)
theorem dX1_call_100 : decode cX1_call 100 = .ok (.getfield 35, 3) := dk_180 0 35 (dk_at dksX1_call_4 8 rfl rfl)
theorem dX1_call_103 : decode cX1_call 103 = .ok (.invokevirtual 146, 3) := dk_182 0 146 (dk_at dksX1_call_4 11 rfl rfl)
theorem dX1_call_106 : decode cX1_call 106 = .ok (.iload_n 1, 1) := dk_27 (dk_at dksX1_call_4 14 rfl rfl)
theorem dX1_call_107 : decode cX1_call 107 = .ok (.iload_n 2, 1) := dk_28 (dk_at dksX1_call_4 15 rfl rfl)
theorem dX1_call_108 : decode cX1_call 108 = .ok (.aload_n 3, 1) := dk_45 (dk_at dksX1_call_4 16 rfl rfl)
theorem dX1_call_109 : decode cX1_call 109 = .ok (.invokespecial 233, 3) := dk_183 0 233 (dk_at dksX1_call_4 17 rfl rfl)
theorem dX1_call_112 : decode cX1_call 112 = .ok (.invokevirtual 50, 3) := dk_182 0 50 (dk_at dksX1_call_4 20 rfl rfl)
theorem dX1_call_115 : decode cX1_call 115 = .ok (.pop, 1) := dk_87 (dk_at dksX1_call_4 23 rfl rfl)
theorem dX1_call_116 : decode cX1_call 116 = .ok (.aload_n 0, 1) := dk_42 (dk_at dksX1_call_5 0 rfl rfl)
theorem dX1_call_117 : decode cX1_call 117 = .ok (.getfield 35, 3) := dk_180 0 35 (dk_at dksX1_call_5 1 rfl rfl)
theorem dX1_call_120 : decode cX1_call 120 = .ok (.invokevirtual 146, 3) := dk_182 0 146 (dk_at dksX1_call_5 4 rfl rfl)
theorem dX1_call_123 : decode cX1_call 123 = .ok (.iconst 1, 1) := dk_4 (dk_at dksX1_call_5 7 rfl rfl)
theorem dX1_call_124 : decode cX1_call 124 = .ok (.isub, 1) := dk_100 (dk_at dksX1_call_5 8 rfl rfl)
theorem dX1_call_125 : decode cX1_call 125 = .ok (.ireturn, 1) := dk_172 (dk_at dksX1_call_5 9 rfl rfl)
abbrev cX1_callNow : ByteArray := prog_1_method_27_code
def yX1_callNow : MethodName := ⟨RX1, "callNow", "(I)I"⟩
def dkwX1_callNow_2 : List UInt8 := [167, 255, 217, 2, 172]
abbrev dktX1_callNow_2 : List UInt8 := dkwX1_callNow_2 ++ []
def dkwX1_callNow_1 : List UInt8 := [192, 0, 121, 78, 45, 180, 0, 123, 153, 0, 16, 45, 180, 0, 215, 27, 160, 0, 8, 45, 180, 0, 218, 172]
abbrev dktX1_callNow_1 : List UInt8 := dkwX1_callNow_1 ++ dktX1_callNow_2
def dkwX1_callNow_0 : List UInt8 := [42, 180, 0, 35, 182, 0, 108, 77, 44, 185, 0, 112, 1, 0, 153, 0, 36, 44, 185, 0, 117, 1, 0]
abbrev dktX1_callNow_0 : List UInt8 := dkwX1_callNow_0 ++ dktX1_callNow_1
theorem dksX1_callNow_0 : cX1_callNow.data.toList.drop 0 = dktX1_callNow_0 := by decide +kernel
theorem dksX1_callNow_1 : cX1_callNow.data.toList.drop 23 = dktX1_callNow_1 := dk_seg dksX1_callNow_0 23 rfl rfl
theorem dksX1_callNow_2 : cX1_callNow.data.toList.drop 47 = dktX1_callNow_2 := dk_seg dksX1_callNow_1 24 rfl rfl
theorem dX1_callNow_0 : decode cX1_callNow 0 = .ok (.aload_n 0, 1) := dk_42 (dk_at dksX1_callNow_0 0 rfl rfl)
theorem dX1_callNow_1 : decode cX1_callNow 1 = .ok (.getfield 35, 3) := dk_180 0 35 (dk_at dksX1_callNow_0 1 rfl rfl)
theorem dX1_callNow_4 : decode cX1_callNow 4 = .ok (.invokevirtual 108, 3) := dk_182 0 108 (dk_at dksX1_callNow_0 4 rfl rfl)
theorem dX1_callNow_7 : decode cX1_callNow 7 = .ok (.astore_n 2, 1) := dk_77 (dk_at dksX1_callNow_0 7 rfl rfl)
theorem dX1_callNow_8 : decode cX1_callNow 8 = .ok (.aload_n 2, 1) := dk_44 (dk_at dksX1_callNow_0 8 rfl rfl)
theorem dX1_callNow_9 : decode cX1_callNow 9 = .ok (.invokeinterface 112 1, 5) := by decide +kernel
theorem dX1_callNow_14 : decode cX1_callNow 14 = .ok (.ifCond .eq 36, 3) := dk_153 0 36 (dk_at dksX1_callNow_0 14 rfl rfl)
theorem dX1_callNow_17 : decode cX1_callNow 17 = .ok (.aload_n 2, 1) := dk_44 (dk_at dksX1_callNow_0 17 rfl rfl)
theorem dX1_callNow_18 : decode cX1_callNow 18 = .ok (.invokeinterface 117 1, 5) := by decide +kernel
theorem dX1_callNow_23 : decode cX1_callNow 23 = .ok (.checkcast 121, 3) := dk_192 0 121 (dk_at dksX1_callNow_1 0 rfl rfl)
theorem dX1_callNow_26 : decode cX1_callNow 26 = .ok (.astore_n 3, 1) := dk_78 (dk_at dksX1_callNow_1 3 rfl rfl)
theorem dX1_callNow_27 : decode cX1_callNow 27 = .ok (.aload_n 3, 1) := dk_45 (dk_at dksX1_callNow_1 4 rfl rfl)
theorem dX1_callNow_28 : decode cX1_callNow 28 = .ok (.getfield 123, 3) := dk_180 0 123 (dk_at dksX1_callNow_1 5 rfl rfl)
theorem dX1_callNow_31 : decode cX1_callNow 31 = .ok (.ifCond .eq 16, 3) := dk_153 0 16 (dk_at dksX1_callNow_1 8 rfl rfl)
theorem dX1_callNow_34 : decode cX1_callNow 34 = .ok (.aload_n 3, 1) := dk_45 (dk_at dksX1_callNow_1 11 rfl rfl)
theorem dX1_callNow_35 : decode cX1_callNow 35 = .ok (.getfield 215, 3) := dk_180 0 215 (dk_at dksX1_callNow_1 12 rfl rfl)
theorem dX1_callNow_38 : decode cX1_callNow 38 = .ok (.iload_n 1, 1) := dk_27 (dk_at dksX1_callNow_1 15 rfl rfl)
theorem dX1_callNow_39 : decode cX1_callNow 39 = .ok (.if_icmp .ne 8, 3) := dk_160 0 8 (dk_at dksX1_callNow_1 16 rfl rfl)
theorem dX1_callNow_42 : decode cX1_callNow 42 = .ok (.aload_n 3, 1) := dk_45 (dk_at dksX1_callNow_1 19 rfl rfl)
theorem dX1_callNow_43 : decode cX1_callNow 43 = .ok (.getfield 218, 3) := dk_180 0 218 (dk_at dksX1_callNow_1 20 rfl rfl)
theorem dX1_callNow_46 : decode cX1_callNow 46 = .ok (.ireturn, 1) := dk_172 (dk_at dksX1_callNow_1 23 rfl rfl)
theorem dX1_callNow_47 : decode cX1_callNow 47 = .ok (.goto (-39), 3) := dk_167 255 217 (dk_at dksX1_callNow_2 0 rfl rfl)
theorem dX1_callNow_50 : decode cX1_callNow 50 = .ok (.iconst (-1), 1) := dk_2 (dk_at dksX1_callNow_2 3 rfl rfl)
theorem dX1_callNow_51 : decode cX1_callNow 51 = .ok (.ireturn, 1) := dk_172 (dk_at dksX1_callNow_2 4 rfl rfl)
abbrev cX1_inUse : ByteArray := prog_1_method_6_code
def yX1_inUse : MethodName := ⟨RX1, "inUse", "(I)I"⟩
def dkwX1_inUse_2 : List UInt8 := [27, 160, 0, 7, 4, 167, 0, 4, 3, 96, 61, 167, 255, 211, 28, 172]
abbrev dktX1_inUse_2 : List UInt8 := dkwX1_inUse_2 ++ []
def dkwX1_inUse_1 : List UInt8 := [185, 0, 117, 1, 0, 192, 0, 121, 58, 4, 28, 25, 4, 180, 0, 123, 153, 0, 16, 25, 4, 180, 0, 127]
abbrev dktX1_inUse_1 : List UInt8 := dkwX1_inUse_1 ++ dktX1_inUse_2
def dkwX1_inUse_0 : List UInt8 := [3, 61, 42, 180, 0, 35, 182, 0, 108, 78, 45, 185, 0, 112, 1, 0, 153, 0, 42, 45]
abbrev dktX1_inUse_0 : List UInt8 := dkwX1_inUse_0 ++ dktX1_inUse_1
theorem dksX1_inUse_0 : cX1_inUse.data.toList.drop 0 = dktX1_inUse_0 := by decide +kernel
theorem dksX1_inUse_1 : cX1_inUse.data.toList.drop 20 = dktX1_inUse_1 := dk_seg dksX1_inUse_0 20 rfl rfl
theorem dksX1_inUse_2 : cX1_inUse.data.toList.drop 44 = dktX1_inUse_2 := dk_seg dksX1_inUse_1 24 rfl rfl
theorem dX1_inUse_0 : decode cX1_inUse 0 = .ok (.iconst 0, 1) := dk_3 (dk_at dksX1_inUse_0 0 rfl rfl)
theorem dX1_inUse_1 : decode cX1_inUse 1 = .ok (.istore_n 2, 1) := dk_61 (dk_at dksX1_inUse_0 1 rfl rfl)
theorem dX1_inUse_2 : decode cX1_inUse 2 = .ok (.aload_n 0, 1) := dk_42 (dk_at dksX1_inUse_0 2 rfl rfl)
theorem dX1_inUse_3 : decode cX1_inUse 3 = .ok (.getfield 35, 3) := dk_180 0 35 (dk_at dksX1_inUse_0 3 rfl rfl)
theorem dX1_inUse_6 : decode cX1_inUse 6 = .ok (.invokevirtual 108, 3) := dk_182 0 108 (dk_at dksX1_inUse_0 6 rfl rfl)
theorem dX1_inUse_9 : decode cX1_inUse 9 = .ok (.astore_n 3, 1) := dk_78 (dk_at dksX1_inUse_0 9 rfl rfl)
theorem dX1_inUse_10 : decode cX1_inUse 10 = .ok (.aload_n 3, 1) := dk_45 (dk_at dksX1_inUse_0 10 rfl rfl)
theorem dX1_inUse_11 : decode cX1_inUse 11 = .ok (.invokeinterface 112 1, 5) := by decide +kernel
theorem dX1_inUse_16 : decode cX1_inUse 16 = .ok (.ifCond .eq 42, 3) := dk_153 0 42 (dk_at dksX1_inUse_0 16 rfl rfl)
theorem dX1_inUse_19 : decode cX1_inUse 19 = .ok (.aload_n 3, 1) := dk_45 (dk_at dksX1_inUse_0 19 rfl rfl)
theorem dX1_inUse_20 : decode cX1_inUse 20 = .ok (.invokeinterface 117 1, 5) := by decide +kernel
theorem dX1_inUse_25 : decode cX1_inUse 25 = .ok (.checkcast 121, 3) := dk_192 0 121 (dk_at dksX1_inUse_1 5 rfl rfl)
theorem dX1_inUse_28 : decode cX1_inUse 28 = .ok (.astore 4, 2) := dk_58 4 (dk_at dksX1_inUse_1 8 rfl rfl)
theorem dX1_inUse_30 : decode cX1_inUse 30 = .ok (.iload_n 2, 1) := dk_28 (dk_at dksX1_inUse_1 10 rfl rfl)
theorem dX1_inUse_31 : decode cX1_inUse 31 = .ok (.aload 4, 2) := dk_25 4 (dk_at dksX1_inUse_1 11 rfl rfl)
theorem dX1_inUse_33 : decode cX1_inUse 33 = .ok (.getfield 123, 3) := dk_180 0 123 (dk_at dksX1_inUse_1 13 rfl rfl)
theorem dX1_inUse_36 : decode cX1_inUse 36 = .ok (.ifCond .eq 16, 3) := dk_153 0 16 (dk_at dksX1_inUse_1 16 rfl rfl)
theorem dX1_inUse_39 : decode cX1_inUse 39 = .ok (.aload 4, 2) := dk_25 4 (dk_at dksX1_inUse_1 19 rfl rfl)
theorem dX1_inUse_41 : decode cX1_inUse 41 = .ok (.getfield 127, 3) := dk_180 0 127 (dk_at dksX1_inUse_1 21 rfl rfl)
theorem dX1_inUse_44 : decode cX1_inUse 44 = .ok (.iload_n 1, 1) := dk_27 (dk_at dksX1_inUse_2 0 rfl rfl)
theorem dX1_inUse_45 : decode cX1_inUse 45 = .ok (.if_icmp .ne 7, 3) := dk_160 0 7 (dk_at dksX1_inUse_2 1 rfl rfl)
theorem dX1_inUse_48 : decode cX1_inUse 48 = .ok (.iconst 1, 1) := dk_4 (dk_at dksX1_inUse_2 4 rfl rfl)
theorem dX1_inUse_49 : decode cX1_inUse 49 = .ok (.goto 4, 3) := dk_167 0 4 (dk_at dksX1_inUse_2 5 rfl rfl)
theorem dX1_inUse_52 : decode cX1_inUse 52 = .ok (.iconst 0, 1) := dk_3 (dk_at dksX1_inUse_2 8 rfl rfl)
theorem dX1_inUse_53 : decode cX1_inUse 53 = .ok (.iadd, 1) := dk_96 (dk_at dksX1_inUse_2 9 rfl rfl)
theorem dX1_inUse_54 : decode cX1_inUse 54 = .ok (.istore_n 2, 1) := dk_61 (dk_at dksX1_inUse_2 10 rfl rfl)
theorem dX1_inUse_55 : decode cX1_inUse 55 = .ok (.goto (-45), 3) := dk_167 255 211 (dk_at dksX1_inUse_2 11 rfl rfl)
theorem dX1_inUse_58 : decode cX1_inUse 58 = .ok (.iload_n 2, 1) := dk_28 (dk_at dksX1_inUse_2 14 rfl rfl)
theorem dX1_inUse_59 : decode cX1_inUse 59 = .ok (.ireturn, 1) := dk_172 (dk_at dksX1_inUse_2 15 rfl rfl)
abbrev cX1_found : ByteArray := prog_1_method_5_code
def yX1_found : MethodName := ⟨RX1, "found", "(IILjava/util/ArrayList;)Ljava/util/ArrayList;"⟩
def dkwX1_found_3 : List UInt8 := [176, 45, 25, 6, 182, 0, 50, 87, 25, 7, 25, 6, 165, 0, 10, 45, 25, 7, 182, 0, 50, 87, 45, 176]
abbrev dktX1_found_3 : List UInt8 := dkwX1_found_3 ++ []
def dkwX1_found_2 : List UInt8 := [21, 5, 28, 182, 0, 104, 167, 0, 5, 25, 4, 58, 7, 25, 6, 198, 0, 8, 25, 7, 199, 0, 5, 1]
abbrev dktX1_found_2 : List UInt8 := dkwX1_found_2 ++ dktX1_found_3
def dkwX1_found_1 : List UInt8 := [199, 0, 13, 42, 27, 21, 5, 182, 0, 104, 167, 0, 5, 25, 4, 58, 6, 25, 4, 199, 0, 13, 42]
abbrev dktX1_found_1 : List UInt8 := dkwX1_found_1 ++ dktX1_found_2
def dkwX1_found_0 : List UInt8 := [27, 28, 160, 0, 5, 45, 176, 42, 27, 28, 182, 0, 104, 58, 4, 6, 27, 100, 28, 100, 54, 5, 25, 4]
abbrev dktX1_found_0 : List UInt8 := dkwX1_found_0 ++ dktX1_found_1
theorem dksX1_found_0 : cX1_found.data.toList.drop 0 = dktX1_found_0 := by decide +kernel
theorem dksX1_found_1 : cX1_found.data.toList.drop 24 = dktX1_found_1 := dk_seg dksX1_found_0 24 rfl rfl
theorem dksX1_found_2 : cX1_found.data.toList.drop 47 = dktX1_found_2 := dk_seg dksX1_found_1 23 rfl rfl
theorem dksX1_found_3 : cX1_found.data.toList.drop 71 = dktX1_found_3 := dk_seg dksX1_found_2 24 rfl rfl
theorem dX1_found_0 : decode cX1_found 0 = .ok (.iload_n 1, 1) := dk_27 (dk_at dksX1_found_0 0 rfl rfl)
theorem dX1_found_1 : decode cX1_found 1 = .ok (.iload_n 2, 1) := dk_28 (dk_at dksX1_found_0 1 rfl rfl)
theorem dX1_found_2 : decode cX1_found 2 = .ok (.if_icmp .ne 5, 3) := dk_160 0 5 (dk_at dksX1_found_0 2 rfl rfl)
theorem dX1_found_5 : decode cX1_found 5 = .ok (.aload_n 3, 1) := dk_45 (dk_at dksX1_found_0 5 rfl rfl)
theorem dX1_found_6 : decode cX1_found 6 = .ok (.areturn, 1) := dk_176 (dk_at dksX1_found_0 6 rfl rfl)
theorem dX1_found_7 : decode cX1_found 7 = .ok (.aload_n 0, 1) := dk_42 (dk_at dksX1_found_0 7 rfl rfl)
theorem dX1_found_8 : decode cX1_found 8 = .ok (.iload_n 1, 1) := dk_27 (dk_at dksX1_found_0 8 rfl rfl)
theorem dX1_found_9 : decode cX1_found 9 = .ok (.iload_n 2, 1) := dk_28 (dk_at dksX1_found_0 9 rfl rfl)
theorem dX1_found_10 : decode cX1_found 10 = .ok (.invokevirtual 104, 3) := dk_182 0 104 (dk_at dksX1_found_0 10 rfl rfl)
theorem dX1_found_13 : decode cX1_found 13 = .ok (.astore 4, 2) := dk_58 4 (dk_at dksX1_found_0 13 rfl rfl)
theorem dX1_found_15 : decode cX1_found 15 = .ok (.iconst 3, 1) := dk_6 (dk_at dksX1_found_0 15 rfl rfl)
theorem dX1_found_16 : decode cX1_found 16 = .ok (.iload_n 1, 1) := dk_27 (dk_at dksX1_found_0 16 rfl rfl)
theorem dX1_found_17 : decode cX1_found 17 = .ok (.isub, 1) := dk_100 (dk_at dksX1_found_0 17 rfl rfl)
theorem dX1_found_18 : decode cX1_found 18 = .ok (.iload_n 2, 1) := dk_28 (dk_at dksX1_found_0 18 rfl rfl)
theorem dX1_found_19 : decode cX1_found 19 = .ok (.isub, 1) := dk_100 (dk_at dksX1_found_0 19 rfl rfl)
theorem dX1_found_20 : decode cX1_found 20 = .ok (.istore 5, 2) := dk_54 5 (dk_at dksX1_found_0 20 rfl rfl)
theorem dX1_found_22 : decode cX1_found 22 = .ok (.aload 4, 2) := dk_25 4 (dk_at dksX1_found_0 22 rfl rfl)
theorem dX1_found_24 : decode cX1_found 24 = .ok (.ifnonnull 13, 3) := dk_199 0 13 (dk_at dksX1_found_1 0 rfl rfl)
theorem dX1_found_27 : decode cX1_found 27 = .ok (.aload_n 0, 1) := dk_42 (dk_at dksX1_found_1 3 rfl rfl)
theorem dX1_found_28 : decode cX1_found 28 = .ok (.iload_n 1, 1) := dk_27 (dk_at dksX1_found_1 4 rfl rfl)
theorem dX1_found_29 : decode cX1_found 29 = .ok (.iload 5, 2) := dk_21 5 (dk_at dksX1_found_1 5 rfl rfl)
theorem dX1_found_31 : decode cX1_found 31 = .ok (.invokevirtual 104, 3) := dk_182 0 104 (dk_at dksX1_found_1 7 rfl rfl)
theorem dX1_found_34 : decode cX1_found 34 = .ok (.goto 5, 3) := dk_167 0 5 (dk_at dksX1_found_1 10 rfl rfl)
theorem dX1_found_37 : decode cX1_found 37 = .ok (.aload 4, 2) := dk_25 4 (dk_at dksX1_found_1 13 rfl rfl)
theorem dX1_found_39 : decode cX1_found 39 = .ok (.astore 6, 2) := dk_58 6 (dk_at dksX1_found_1 15 rfl rfl)
theorem dX1_found_41 : decode cX1_found 41 = .ok (.aload 4, 2) := dk_25 4 (dk_at dksX1_found_1 17 rfl rfl)
theorem dX1_found_43 : decode cX1_found 43 = .ok (.ifnonnull 13, 3) := dk_199 0 13 (dk_at dksX1_found_1 19 rfl rfl)
theorem dX1_found_46 : decode cX1_found 46 = .ok (.aload_n 0, 1) := dk_42 (dk_at dksX1_found_1 22 rfl rfl)
theorem dX1_found_47 : decode cX1_found 47 = .ok (.iload 5, 2) := dk_21 5 (dk_at dksX1_found_2 0 rfl rfl)
theorem dX1_found_49 : decode cX1_found 49 = .ok (.iload_n 2, 1) := dk_28 (dk_at dksX1_found_2 2 rfl rfl)
theorem dX1_found_50 : decode cX1_found 50 = .ok (.invokevirtual 104, 3) := dk_182 0 104 (dk_at dksX1_found_2 3 rfl rfl)
theorem dX1_found_53 : decode cX1_found 53 = .ok (.goto 5, 3) := dk_167 0 5 (dk_at dksX1_found_2 6 rfl rfl)
theorem dX1_found_56 : decode cX1_found 56 = .ok (.aload 4, 2) := dk_25 4 (dk_at dksX1_found_2 9 rfl rfl)
theorem dX1_found_58 : decode cX1_found 58 = .ok (.astore 7, 2) := dk_58 7 (dk_at dksX1_found_2 11 rfl rfl)
theorem dX1_found_60 : decode cX1_found 60 = .ok (.aload 6, 2) := dk_25 6 (dk_at dksX1_found_2 13 rfl rfl)
theorem dX1_found_62 : decode cX1_found 62 = .ok (.ifnull 8, 3) := dk_198 0 8 (dk_at dksX1_found_2 15 rfl rfl)
theorem dX1_found_65 : decode cX1_found 65 = .ok (.aload 7, 2) := dk_25 7 (dk_at dksX1_found_2 18 rfl rfl)
theorem dX1_found_67 : decode cX1_found 67 = .ok (.ifnonnull 5, 3) := dk_199 0 5 (dk_at dksX1_found_2 20 rfl rfl)
theorem dX1_found_70 : decode cX1_found 70 = .ok (.aconst_null, 1) := dk_1 (dk_at dksX1_found_2 23 rfl rfl)
theorem dX1_found_71 : decode cX1_found 71 = .ok (.areturn, 1) := dk_176 (dk_at dksX1_found_3 0 rfl rfl)
theorem dX1_found_72 : decode cX1_found 72 = .ok (.aload_n 3, 1) := dk_45 (dk_at dksX1_found_3 1 rfl rfl)
theorem dX1_found_73 : decode cX1_found 73 = .ok (.aload 6, 2) := dk_25 6 (dk_at dksX1_found_3 2 rfl rfl)
theorem dX1_found_75 : decode cX1_found 75 = .ok (.invokevirtual 50, 3) := dk_182 0 50 (dk_at dksX1_found_3 4 rfl rfl)
theorem dX1_found_78 : decode cX1_found 78 = .ok (.pop, 1) := dk_87 (dk_at dksX1_found_3 7 rfl rfl)
theorem dX1_found_79 : decode cX1_found 79 = .ok (.aload 7, 2) := dk_25 7 (dk_at dksX1_found_3 8 rfl rfl)
theorem dX1_found_81 : decode cX1_found 81 = .ok (.aload 6, 2) := dk_25 6 (dk_at dksX1_found_3 10 rfl rfl)
theorem dX1_found_83 : decode cX1_found 83 = .ok (.if_acmp .eq 10, 3) := dk_165 0 10 (dk_at dksX1_found_3 12 rfl rfl)
theorem dX1_found_86 : decode cX1_found 86 = .ok (.aload_n 3, 1) := dk_45 (dk_at dksX1_found_3 15 rfl rfl)
theorem dX1_found_87 : decode cX1_found 87 = .ok (.aload 7, 2) := dk_25 7 (dk_at dksX1_found_3 16 rfl rfl)
theorem dX1_found_89 : decode cX1_found 89 = .ok (.invokevirtual 50, 3) := dk_182 0 50 (dk_at dksX1_found_3 18 rfl rfl)
theorem dX1_found_92 : decode cX1_found 92 = .ok (.pop, 1) := dk_87 (dk_at dksX1_found_3 21 rfl rfl)
theorem dX1_found_93 : decode cX1_found 93 = .ok (.aload_n 3, 1) := dk_45 (dk_at dksX1_found_3 22 rfl rfl)
theorem dX1_found_94 : decode cX1_found 94 = .ok (.areturn, 1) := dk_176 (dk_at dksX1_found_3 23 rfl rfl)
abbrev cX1_freeBetween : ByteArray := prog_1_method_4_code
def yX1_freeBetween : MethodName := ⟨RX1, "freeBetween", "(II)LTrunkYards$Trunk;"⟩
def dkwX1_freeBetween_2 : List UInt8 := [25, 6, 176, 132, 5, 1, 167, 255, 229, 1, 176]
abbrev dktX1_freeBetween_2 : List UInt8 := dkwX1_freeBetween_2 ++ []
def dkwX1_freeBetween_1 : List UInt8 := [3, 54, 5, 21, 5, 21, 4, 162, 0, 26, 45, 21, 5, 50, 58, 6, 25, 6, 182, 0, 100, 153, 0, 6]
abbrev dktX1_freeBetween_1 : List UInt8 := dkwX1_freeBetween_1 ++ dktX1_freeBetween_2
def dkwX1_freeBetween_0 : List UInt8 := [42, 180, 0, 27, 187, 0, 54, 89, 27, 28, 183, 0, 56, 182, 0, 97, 192, 0, 66, 78, 45, 190, 54, 4]
abbrev dktX1_freeBetween_0 : List UInt8 := dkwX1_freeBetween_0 ++ dktX1_freeBetween_1
theorem dksX1_freeBetween_0 : cX1_freeBetween.data.toList.drop 0 = dktX1_freeBetween_0 := by decide +kernel
theorem dksX1_freeBetween_1 : cX1_freeBetween.data.toList.drop 24 = dktX1_freeBetween_1 := dk_seg dksX1_freeBetween_0 24 rfl rfl
theorem dksX1_freeBetween_2 : cX1_freeBetween.data.toList.drop 48 = dktX1_freeBetween_2 := dk_seg dksX1_freeBetween_1 24 rfl rfl
theorem dX1_freeBetween_0 : decode cX1_freeBetween 0 = .ok (.aload_n 0, 1) := dk_42 (dk_at dksX1_freeBetween_0 0 rfl rfl)
theorem dX1_freeBetween_1 : decode cX1_freeBetween 1 = .ok (.getfield 27, 3) := dk_180 0 27 (dk_at dksX1_freeBetween_0 1 rfl rfl)
theorem dX1_freeBetween_4 : decode cX1_freeBetween 4 = .ok (.new 54, 3) := dk_187 0 54 (dk_at dksX1_freeBetween_0 4 rfl rfl)
theorem dX1_freeBetween_7 : decode cX1_freeBetween 7 = .ok (.dup, 1) := dk_89 (dk_at dksX1_freeBetween_0 7 rfl rfl)
theorem dX1_freeBetween_8 : decode cX1_freeBetween 8 = .ok (.iload_n 1, 1) := dk_27 (dk_at dksX1_freeBetween_0 8 rfl rfl)
theorem dX1_freeBetween_9 : decode cX1_freeBetween 9 = .ok (.iload_n 2, 1) := dk_28 (dk_at dksX1_freeBetween_0 9 rfl rfl)
theorem dX1_freeBetween_10 : decode cX1_freeBetween 10 = .ok (.invokespecial 56, 3) := dk_183 0 56 (dk_at dksX1_freeBetween_0 10 rfl rfl)
theorem dX1_freeBetween_13 : decode cX1_freeBetween 13 = .ok (.invokevirtual 97, 3) := dk_182 0 97 (dk_at dksX1_freeBetween_0 13 rfl rfl)
theorem dX1_freeBetween_16 : decode cX1_freeBetween 16 = .ok (.checkcast 66, 3) := dk_192 0 66 (dk_at dksX1_freeBetween_0 16 rfl rfl)
theorem dX1_freeBetween_19 : decode cX1_freeBetween 19 = .ok (.astore_n 3, 1) := dk_78 (dk_at dksX1_freeBetween_0 19 rfl rfl)
theorem dX1_freeBetween_20 : decode cX1_freeBetween 20 = .ok (.aload_n 3, 1) := dk_45 (dk_at dksX1_freeBetween_0 20 rfl rfl)
theorem dX1_freeBetween_21 : decode cX1_freeBetween 21 = .ok (.arraylength, 1) := dk_190 (dk_at dksX1_freeBetween_0 21 rfl rfl)
theorem dX1_freeBetween_22 : decode cX1_freeBetween 22 = .ok (.istore 4, 2) := dk_54 4 (dk_at dksX1_freeBetween_0 22 rfl rfl)
theorem dX1_freeBetween_24 : decode cX1_freeBetween 24 = .ok (.iconst 0, 1) := dk_3 (dk_at dksX1_freeBetween_1 0 rfl rfl)
theorem dX1_freeBetween_25 : decode cX1_freeBetween 25 = .ok (.istore 5, 2) := dk_54 5 (dk_at dksX1_freeBetween_1 1 rfl rfl)
theorem dX1_freeBetween_27 : decode cX1_freeBetween 27 = .ok (.iload 5, 2) := dk_21 5 (dk_at dksX1_freeBetween_1 3 rfl rfl)
theorem dX1_freeBetween_29 : decode cX1_freeBetween 29 = .ok (.iload 4, 2) := dk_21 4 (dk_at dksX1_freeBetween_1 5 rfl rfl)
theorem dX1_freeBetween_31 : decode cX1_freeBetween 31 = .ok (.if_icmp .ge 26, 3) := dk_162 0 26 (dk_at dksX1_freeBetween_1 7 rfl rfl)
theorem dX1_freeBetween_34 : decode cX1_freeBetween 34 = .ok (.aload_n 3, 1) := dk_45 (dk_at dksX1_freeBetween_1 10 rfl rfl)
theorem dX1_freeBetween_35 : decode cX1_freeBetween 35 = .ok (.iload 5, 2) := dk_21 5 (dk_at dksX1_freeBetween_1 11 rfl rfl)
theorem dX1_freeBetween_37 : decode cX1_freeBetween 37 = .ok (.aaload, 1) := dk_50 (dk_at dksX1_freeBetween_1 13 rfl rfl)
theorem dX1_freeBetween_38 : decode cX1_freeBetween 38 = .ok (.astore 6, 2) := dk_58 6 (dk_at dksX1_freeBetween_1 14 rfl rfl)
theorem dX1_freeBetween_40 : decode cX1_freeBetween 40 = .ok (.aload 6, 2) := dk_25 6 (dk_at dksX1_freeBetween_1 16 rfl rfl)
theorem dX1_freeBetween_42 : decode cX1_freeBetween 42 = .ok (.invokevirtual 100, 3) := dk_182 0 100 (dk_at dksX1_freeBetween_1 18 rfl rfl)
theorem dX1_freeBetween_45 : decode cX1_freeBetween 45 = .ok (.ifCond .eq 6, 3) := dk_153 0 6 (dk_at dksX1_freeBetween_1 21 rfl rfl)
theorem dX1_freeBetween_48 : decode cX1_freeBetween 48 = .ok (.aload 6, 2) := dk_25 6 (dk_at dksX1_freeBetween_2 0 rfl rfl)
theorem dX1_freeBetween_50 : decode cX1_freeBetween 50 = .ok (.areturn, 1) := dk_176 (dk_at dksX1_freeBetween_2 2 rfl rfl)
theorem dX1_freeBetween_51 : decode cX1_freeBetween 51 = .ok (.iinc 5 1, 3) := dk_132 5 1 (dk_at dksX1_freeBetween_2 3 rfl rfl)
theorem dX1_freeBetween_54 : decode cX1_freeBetween 54 = .ok (.goto (-27), 3) := dk_167 255 229 (dk_at dksX1_freeBetween_2 6 rfl rfl)
theorem dX1_freeBetween_57 : decode cX1_freeBetween 57 = .ok (.aconst_null, 1) := dk_1 (dk_at dksX1_freeBetween_2 9 rfl rfl)
theorem dX1_freeBetween_58 : decode cX1_freeBetween 58 = .ok (.areturn, 1) := dk_176 (dk_at dksX1_freeBetween_2 10 rfl rfl)
abbrev cX1_ask : ByteArray := prog_1_method_29_code
def yX1_ask : MethodName := ⟨RX1, "ask", "(II)I"⟩
def dkwX1_ask_6 : List UInt8 := [25, 4, 45, 180, 0, 236, 181, 0, 89, 25, 4, 180, 0, 170, 172]
abbrev dktX1_ask_6 : List UInt8 := dkwX1_ask_6 ++ []
def dkwX1_ask_5 : List UInt8 := [180, 0, 38, 45, 180, 0, 236, 182, 0, 50, 87, 45, 180, 0, 236, 180, 0, 246, 25, 4, 182, 0, 50, 87]
abbrev dktX1_ask_5 : List UInt8 := dkwX1_ask_5 ++ dktX1_ask_6
def dkwX1_ask_4 : List UInt8 := [42, 180, 0, 38, 182, 0, 146, 45, 180, 0, 215, 45, 180, 0, 127, 28, 183, 0, 243, 181, 0, 236, 42]
abbrev dktX1_ask_4 : List UInt8 := dkwX1_ask_4 ++ dktX1_ask_5
def dkwX1_ask_3 : List UInt8 := [182, 0, 240, 58, 4, 25, 4, 199, 0, 5, 2, 172, 45, 180, 0, 236, 199, 0, 42, 45, 187, 0, 158, 89]
abbrev dktX1_ask_3 : List UInt8 := dkwX1_ask_3 ++ dktX1_ask_4
def dkwX1_ask_2 : List UInt8 := [180, 0, 236, 180, 0, 239, 28, 160, 0, 7, 4, 167, 0, 4, 3, 184, 0, 154, 42, 45, 180, 0, 127, 28]
abbrev dktX1_ask_2 : List UInt8 := dkwX1_ask_2 ++ dktX1_ask_3
def dkwX1_ask_1 : List UInt8 := [199, 0, 23, 42, 180, 0, 38, 182, 0, 146, 16, 40, 162, 0, 7, 4, 167, 0, 23, 3, 167, 0, 19, 45]
abbrev dktX1_ask_1 : List UInt8 := dkwX1_ask_1 ++ dktX1_ask_2
def dkwX1_ask_0 : List UInt8 := [42, 27, 182, 0, 150, 78, 28, 3, 6, 184, 0, 139, 45, 180, 0, 123, 184, 0, 154, 45, 180, 0, 236]
abbrev dktX1_ask_0 : List UInt8 := dkwX1_ask_0 ++ dktX1_ask_1
theorem dksX1_ask_0 : cX1_ask.data.toList.drop 0 = dktX1_ask_0 := by decide +kernel
theorem dksX1_ask_1 : cX1_ask.data.toList.drop 23 = dktX1_ask_1 := dk_seg dksX1_ask_0 23 rfl rfl
theorem dksX1_ask_2 : cX1_ask.data.toList.drop 47 = dktX1_ask_2 := dk_seg dksX1_ask_1 24 rfl rfl
theorem dksX1_ask_3 : cX1_ask.data.toList.drop 71 = dktX1_ask_3 := dk_seg dksX1_ask_2 24 rfl rfl
theorem dksX1_ask_4 : cX1_ask.data.toList.drop 95 = dktX1_ask_4 := dk_seg dksX1_ask_3 24 rfl rfl
theorem dksX1_ask_5 : cX1_ask.data.toList.drop 118 = dktX1_ask_5 := dk_seg dksX1_ask_4 23 rfl rfl
theorem dksX1_ask_6 : cX1_ask.data.toList.drop 142 = dktX1_ask_6 := dk_seg dksX1_ask_5 24 rfl rfl
theorem dX1_ask_0 : decode cX1_ask 0 = .ok (.aload_n 0, 1) := dk_42 (dk_at dksX1_ask_0 0 rfl rfl)
theorem dX1_ask_1 : decode cX1_ask 1 = .ok (.iload_n 1, 1) := dk_27 (dk_at dksX1_ask_0 1 rfl rfl)
theorem dX1_ask_2 : decode cX1_ask 2 = .ok (.invokevirtual 150, 3) := dk_182 0 150 (dk_at dksX1_ask_0 2 rfl rfl)
theorem dX1_ask_5 : decode cX1_ask 5 = .ok (.astore_n 3, 1) := dk_78 (dk_at dksX1_ask_0 5 rfl rfl)
theorem dX1_ask_6 : decode cX1_ask 6 = .ok (.iload_n 2, 1) := dk_28 (dk_at dksX1_ask_0 6 rfl rfl)
theorem dX1_ask_7 : decode cX1_ask 7 = .ok (.iconst 0, 1) := dk_3 (dk_at dksX1_ask_0 7 rfl rfl)
theorem dX1_ask_8 : decode cX1_ask 8 = .ok (.iconst 3, 1) := dk_6 (dk_at dksX1_ask_0 8 rfl rfl)
theorem dX1_ask_9 : decode cX1_ask 9 = .ok (.invokestatic 139, 3) := dk_184 0 139 (dk_at dksX1_ask_0 9 rfl rfl)
theorem dX1_ask_12 : decode cX1_ask 12 = .ok (.aload_n 3, 1) := dk_45 (dk_at dksX1_ask_0 12 rfl rfl)
theorem dX1_ask_13 : decode cX1_ask 13 = .ok (.getfield 123, 3) := dk_180 0 123 (dk_at dksX1_ask_0 13 rfl rfl)
theorem dX1_ask_16 : decode cX1_ask 16 = .ok (.invokestatic 154, 3) := dk_184 0 154 (dk_at dksX1_ask_0 16 rfl rfl)
theorem dX1_ask_19 : decode cX1_ask 19 = .ok (.aload_n 3, 1) := dk_45 (dk_at dksX1_ask_0 19 rfl rfl)
theorem dX1_ask_20 : decode cX1_ask 20 = .ok (.getfield 236, 3) := dk_180 0 236 (dk_at dksX1_ask_0 20 rfl rfl)
theorem dX1_ask_23 : decode cX1_ask 23 = .ok (.ifnonnull 23, 3) := dk_199 0 23 (dk_at dksX1_ask_1 0 rfl rfl)
theorem dX1_ask_26 : decode cX1_ask 26 = .ok (.aload_n 0, 1) := dk_42 (dk_at dksX1_ask_1 3 rfl rfl)
theorem dX1_ask_27 : decode cX1_ask 27 = .ok (.getfield 38, 3) := dk_180 0 38 (dk_at dksX1_ask_1 4 rfl rfl)
theorem dX1_ask_30 : decode cX1_ask 30 = .ok (.invokevirtual 146, 3) := dk_182 0 146 (dk_at dksX1_ask_1 7 rfl rfl)
theorem dX1_ask_33 : decode cX1_ask 33 = .ok (.bipush 40, 2) := dk_16 40 (dk_at dksX1_ask_1 10 rfl rfl)
theorem dX1_ask_35 : decode cX1_ask 35 = .ok (.if_icmp .ge 7, 3) := dk_162 0 7 (dk_at dksX1_ask_1 12 rfl rfl)
theorem dX1_ask_38 : decode cX1_ask 38 = .ok (.iconst 1, 1) := dk_4 (dk_at dksX1_ask_1 15 rfl rfl)
theorem dX1_ask_39 : decode cX1_ask 39 = .ok (.goto 23, 3) := dk_167 0 23 (dk_at dksX1_ask_1 16 rfl rfl)
theorem dX1_ask_42 : decode cX1_ask 42 = .ok (.iconst 0, 1) := dk_3 (dk_at dksX1_ask_1 19 rfl rfl)
theorem dX1_ask_43 : decode cX1_ask 43 = .ok (.goto 19, 3) := dk_167 0 19 (dk_at dksX1_ask_1 20 rfl rfl)
theorem dX1_ask_46 : decode cX1_ask 46 = .ok (.aload_n 3, 1) := dk_45 (dk_at dksX1_ask_1 23 rfl rfl)
theorem dX1_ask_47 : decode cX1_ask 47 = .ok (.getfield 236, 3) := dk_180 0 236 (dk_at dksX1_ask_2 0 rfl rfl)
theorem dX1_ask_50 : decode cX1_ask 50 = .ok (.getfield 239, 3) := dk_180 0 239 (dk_at dksX1_ask_2 3 rfl rfl)
theorem dX1_ask_53 : decode cX1_ask 53 = .ok (.iload_n 2, 1) := dk_28 (dk_at dksX1_ask_2 6 rfl rfl)
theorem dX1_ask_54 : decode cX1_ask 54 = .ok (.if_icmp .ne 7, 3) := dk_160 0 7 (dk_at dksX1_ask_2 7 rfl rfl)
theorem dX1_ask_57 : decode cX1_ask 57 = .ok (.iconst 1, 1) := dk_4 (dk_at dksX1_ask_2 10 rfl rfl)
theorem dX1_ask_58 : decode cX1_ask 58 = .ok (.goto 4, 3) := dk_167 0 4 (dk_at dksX1_ask_2 11 rfl rfl)
theorem dX1_ask_61 : decode cX1_ask 61 = .ok (.iconst 0, 1) := dk_3 (dk_at dksX1_ask_2 14 rfl rfl)
theorem dX1_ask_62 : decode cX1_ask 62 = .ok (.invokestatic 154, 3) := dk_184 0 154 (dk_at dksX1_ask_2 15 rfl rfl)
theorem dX1_ask_65 : decode cX1_ask 65 = .ok (.aload_n 0, 1) := dk_42 (dk_at dksX1_ask_2 18 rfl rfl)
theorem dX1_ask_66 : decode cX1_ask 66 = .ok (.aload_n 3, 1) := dk_45 (dk_at dksX1_ask_2 19 rfl rfl)
theorem dX1_ask_67 : decode cX1_ask 67 = .ok (.getfield 127, 3) := dk_180 0 127 (dk_at dksX1_ask_2 20 rfl rfl)
theorem dX1_ask_70 : decode cX1_ask 70 = .ok (.iload_n 2, 1) := dk_28 (dk_at dksX1_ask_2 23 rfl rfl)
theorem dX1_ask_71 : decode cX1_ask 71 = .ok (.invokevirtual 240, 3) := dk_182 0 240 (dk_at dksX1_ask_3 0 rfl rfl)
theorem dX1_ask_74 : decode cX1_ask 74 = .ok (.astore 4, 2) := dk_58 4 (dk_at dksX1_ask_3 3 rfl rfl)
theorem dX1_ask_76 : decode cX1_ask 76 = .ok (.aload 4, 2) := dk_25 4 (dk_at dksX1_ask_3 5 rfl rfl)
theorem dX1_ask_78 : decode cX1_ask 78 = .ok (.ifnonnull 5, 3) := dk_199 0 5 (dk_at dksX1_ask_3 7 rfl rfl)
theorem dX1_ask_81 : decode cX1_ask 81 = .ok (.iconst (-1), 1) := dk_2 (dk_at dksX1_ask_3 10 rfl rfl)
theorem dX1_ask_82 : decode cX1_ask 82 = .ok (.ireturn, 1) := dk_172 (dk_at dksX1_ask_3 11 rfl rfl)
theorem dX1_ask_83 : decode cX1_ask 83 = .ok (.aload_n 3, 1) := dk_45 (dk_at dksX1_ask_3 12 rfl rfl)
theorem dX1_ask_84 : decode cX1_ask 84 = .ok (.getfield 236, 3) := dk_180 0 236 (dk_at dksX1_ask_3 13 rfl rfl)
theorem dX1_ask_87 : decode cX1_ask 87 = .ok (.ifnonnull 42, 3) := dk_199 0 42 (dk_at dksX1_ask_3 16 rfl rfl)
theorem dX1_ask_90 : decode cX1_ask 90 = .ok (.aload_n 3, 1) := dk_45 (dk_at dksX1_ask_3 19 rfl rfl)
theorem dX1_ask_91 : decode cX1_ask 91 = .ok (.new 158, 3) := dk_187 0 158 (dk_at dksX1_ask_3 20 rfl rfl)
theorem dX1_ask_94 : decode cX1_ask 94 = .ok (.dup, 1) := dk_89 (dk_at dksX1_ask_3 23 rfl rfl)
theorem dX1_ask_95 : decode cX1_ask 95 = .ok (.aload_n 0, 1) := dk_42 (dk_at dksX1_ask_4 0 rfl rfl)
theorem dX1_ask_96 : decode cX1_ask 96 = .ok (.getfield 38, 3) := dk_180 0 38 (dk_at dksX1_ask_4 1 rfl rfl)
theorem dX1_ask_99 : decode cX1_ask 99 = .ok (.invokevirtual 146, 3) := dk_182 0 146 (dk_at dksX1_ask_4 4 rfl rfl)
theorem dX1_ask_102 : decode cX1_ask 102 = .ok (.aload_n 3, 1) := dk_45 (dk_at dksX1_ask_4 7 rfl rfl)
theorem dX1_ask_103 : decode cX1_ask 103 = .ok (.getfield 215, 3) := dk_180 0 215 (dk_at dksX1_ask_4 8 rfl rfl)
theorem dX1_ask_106 : decode cX1_ask 106 = .ok (.aload_n 3, 1) := dk_45 (dk_at dksX1_ask_4 11 rfl rfl)
theorem dX1_ask_107 : decode cX1_ask 107 = .ok (.getfield 127, 3) := dk_180 0 127 (dk_at dksX1_ask_4 12 rfl rfl)
theorem dX1_ask_110 : decode cX1_ask 110 = .ok (.iload_n 2, 1) := dk_28 (dk_at dksX1_ask_4 15 rfl rfl)
theorem dX1_ask_111 : decode cX1_ask 111 = .ok (.invokespecial 243, 3) := dk_183 0 243 (dk_at dksX1_ask_4 16 rfl rfl)
theorem dX1_ask_114 : decode cX1_ask 114 = .ok (.putfield 236, 3) := dk_181 0 236 (dk_at dksX1_ask_4 19 rfl rfl)
theorem dX1_ask_117 : decode cX1_ask 117 = .ok (.aload_n 0, 1) := dk_42 (dk_at dksX1_ask_4 22 rfl rfl)
theorem dX1_ask_118 : decode cX1_ask 118 = .ok (.getfield 38, 3) := dk_180 0 38 (dk_at dksX1_ask_5 0 rfl rfl)
theorem dX1_ask_121 : decode cX1_ask 121 = .ok (.aload_n 3, 1) := dk_45 (dk_at dksX1_ask_5 3 rfl rfl)
theorem dX1_ask_122 : decode cX1_ask 122 = .ok (.getfield 236, 3) := dk_180 0 236 (dk_at dksX1_ask_5 4 rfl rfl)
theorem dX1_ask_125 : decode cX1_ask 125 = .ok (.invokevirtual 50, 3) := dk_182 0 50 (dk_at dksX1_ask_5 7 rfl rfl)
theorem dX1_ask_128 : decode cX1_ask 128 = .ok (.pop, 1) := dk_87 (dk_at dksX1_ask_5 10 rfl rfl)
theorem dX1_ask_129 : decode cX1_ask 129 = .ok (.aload_n 3, 1) := dk_45 (dk_at dksX1_ask_5 11 rfl rfl)
theorem dX1_ask_130 : decode cX1_ask 130 = .ok (.getfield 236, 3) := dk_180 0 236 (dk_at dksX1_ask_5 12 rfl rfl)
theorem dX1_ask_133 : decode cX1_ask 133 = .ok (.getfield 246, 3) := dk_180 0 246 (dk_at dksX1_ask_5 15 rfl rfl)
theorem dX1_ask_136 : decode cX1_ask 136 = .ok (.aload 4, 2) := dk_25 4 (dk_at dksX1_ask_5 18 rfl rfl)
theorem dX1_ask_138 : decode cX1_ask 138 = .ok (.invokevirtual 50, 3) := dk_182 0 50 (dk_at dksX1_ask_5 20 rfl rfl)
theorem dX1_ask_141 : decode cX1_ask 141 = .ok (.pop, 1) := dk_87 (dk_at dksX1_ask_5 23 rfl rfl)
theorem dX1_ask_142 : decode cX1_ask 142 = .ok (.aload 4, 2) := dk_25 4 (dk_at dksX1_ask_6 0 rfl rfl)
theorem dX1_ask_144 : decode cX1_ask 144 = .ok (.aload_n 3, 1) := dk_45 (dk_at dksX1_ask_6 2 rfl rfl)
theorem dX1_ask_145 : decode cX1_ask 145 = .ok (.getfield 236, 3) := dk_180 0 236 (dk_at dksX1_ask_6 3 rfl rfl)
theorem dX1_ask_148 : decode cX1_ask 148 = .ok (.putfield 89, 3) := dk_181 0 89 (dk_at dksX1_ask_6 6 rfl rfl)
theorem dX1_ask_151 : decode cX1_ask 151 = .ok (.aload 4, 2) := dk_25 4 (dk_at dksX1_ask_6 9 rfl rfl)
theorem dX1_ask_153 : decode cX1_ask 153 = .ok (.getfield 170, 3) := dk_180 0 170 (dk_at dksX1_ask_6 11 rfl rfl)
theorem dX1_ask_156 : decode cX1_ask 156 = .ok (.ireturn, 1) := dk_172 (dk_at dksX1_ask_6 14 rfl rfl)
abbrev cX1_named : ByteArray := prog_1_method_13_code
def yX1_named : MethodName := ⟨RX1, "named", "(I)LTrunkYards$Call;"⟩
def dkwX1_named_0 : List UInt8 := [27, 42, 180, 0, 35, 182, 0, 146, 184, 0, 147, 42, 180, 0, 35, 27, 182, 0, 74, 192, 0, 121, 176]
abbrev dktX1_named_0 : List UInt8 := dkwX1_named_0 ++ []
theorem dksX1_named_0 : cX1_named.data.toList.drop 0 = dktX1_named_0 := by decide +kernel
theorem dX1_named_0 : decode cX1_named 0 = .ok (.iload_n 1, 1) := dk_27 (dk_at dksX1_named_0 0 rfl rfl)
theorem dX1_named_1 : decode cX1_named 1 = .ok (.aload_n 0, 1) := dk_42 (dk_at dksX1_named_0 1 rfl rfl)
theorem dX1_named_2 : decode cX1_named 2 = .ok (.getfield 35, 3) := dk_180 0 35 (dk_at dksX1_named_0 2 rfl rfl)
theorem dX1_named_5 : decode cX1_named 5 = .ok (.invokevirtual 146, 3) := dk_182 0 146 (dk_at dksX1_named_0 5 rfl rfl)
theorem dX1_named_8 : decode cX1_named 8 = .ok (.invokestatic 147, 3) := dk_184 0 147 (dk_at dksX1_named_0 8 rfl rfl)
theorem dX1_named_11 : decode cX1_named 11 = .ok (.aload_n 0, 1) := dk_42 (dk_at dksX1_named_0 11 rfl rfl)
theorem dX1_named_12 : decode cX1_named 12 = .ok (.getfield 35, 3) := dk_180 0 35 (dk_at dksX1_named_0 12 rfl rfl)
theorem dX1_named_15 : decode cX1_named 15 = .ok (.iload_n 1, 1) := dk_27 (dk_at dksX1_named_0 15 rfl rfl)
theorem dX1_named_16 : decode cX1_named 16 = .ok (.invokevirtual 74, 3) := dk_182 0 74 (dk_at dksX1_named_0 16 rfl rfl)
theorem dX1_named_19 : decode cX1_named 19 = .ok (.checkcast 121, 3) := dk_192 0 121 (dk_at dksX1_named_0 19 rfl rfl)
theorem dX1_named_22 : decode cX1_named 22 = .ok (.areturn, 1) := dk_176 (dk_at dksX1_named_0 22 rfl rfl)
abbrev cX1_found_2 : ByteArray := prog_1_method_3_code
def yX1_found_2 : MethodName := ⟨RX1, "found", "(II)LTrunkYards$Wagon;"⟩
def dkwX1_found_2_4 : List UInt8 := [54, 4, 132, 7, 1, 167, 255, 193, 132, 5, 1, 167, 255, 160, 45, 176]
abbrev dktX1_found_2_4 : List UInt8 := dkwX1_found_2_4 ++ []
def dkwX1_found_2_3 : List UInt8 := [25, 8, 180, 0, 89, 199, 0, 20, 42, 25, 8, 28, 182, 0, 93, 153, 0, 10, 25, 8, 78, 21, 7]
abbrev dktX1_found_2_3 : List UInt8 := dkwX1_found_2_3 ++ dktX1_found_2_4
def dkwX1_found_2_2 : List UInt8 := [162, 0, 54, 25, 6, 25, 6, 182, 0, 78, 4, 100, 21, 7, 100, 182, 0, 88, 192, 0, 69, 58, 8]
abbrev dktX1_found_2_2 : List UInt8 := dkwX1_found_2_2 ++ dktX1_found_2_3
def dkwX1_found_2_1 : List UInt8 := [96, 182, 0, 74, 192, 0, 47, 58, 6, 3, 54, 7, 21, 7, 21, 4, 25, 6, 182, 0, 78, 184, 0, 82]
abbrev dktX1_found_2_1 : List UInt8 := dkwX1_found_2_1 ++ dktX1_found_2_2
def dkwX1_found_2_0 : List UInt8 := [1, 78, 16, 6, 54, 4, 3, 54, 5, 21, 5, 8, 162, 0, 96, 42, 180, 0, 10, 8, 27, 104, 21, 5]
abbrev dktX1_found_2_0 : List UInt8 := dkwX1_found_2_0 ++ dktX1_found_2_1
theorem dksX1_found_2_0 : cX1_found_2.data.toList.drop 0 = dktX1_found_2_0 := by decide +kernel
theorem dksX1_found_2_1 : cX1_found_2.data.toList.drop 24 = dktX1_found_2_1 := dk_seg dksX1_found_2_0 24 rfl rfl
theorem dksX1_found_2_2 : cX1_found_2.data.toList.drop 48 = dktX1_found_2_2 := dk_seg dksX1_found_2_1 24 rfl rfl
theorem dksX1_found_2_3 : cX1_found_2.data.toList.drop 71 = dktX1_found_2_3 := dk_seg dksX1_found_2_2 23 rfl rfl
theorem dksX1_found_2_4 : cX1_found_2.data.toList.drop 94 = dktX1_found_2_4 := dk_seg dksX1_found_2_3 23 rfl rfl
theorem dX1_found_2_0 : decode cX1_found_2 0 = .ok (.aconst_null, 1) := dk_1 (dk_at dksX1_found_2_0 0 rfl rfl)
theorem dX1_found_2_1 : decode cX1_found_2 1 = .ok (.astore_n 3, 1) := dk_78 (dk_at dksX1_found_2_0 1 rfl rfl)
theorem dX1_found_2_2 : decode cX1_found_2 2 = .ok (.bipush 6, 2) := dk_16 6 (dk_at dksX1_found_2_0 2 rfl rfl)
theorem dX1_found_2_4 : decode cX1_found_2 4 = .ok (.istore 4, 2) := dk_54 4 (dk_at dksX1_found_2_0 4 rfl rfl)
theorem dX1_found_2_6 : decode cX1_found_2 6 = .ok (.iconst 0, 1) := dk_3 (dk_at dksX1_found_2_0 6 rfl rfl)
theorem dX1_found_2_7 : decode cX1_found_2 7 = .ok (.istore 5, 2) := dk_54 5 (dk_at dksX1_found_2_0 7 rfl rfl)
theorem dX1_found_2_9 : decode cX1_found_2 9 = .ok (.iload 5, 2) := dk_21 5 (dk_at dksX1_found_2_0 9 rfl rfl)
theorem dX1_found_2_11 : decode cX1_found_2 11 = .ok (.iconst 5, 1) := dk_8 (dk_at dksX1_found_2_0 11 rfl rfl)
theorem dX1_found_2_12 : decode cX1_found_2 12 = .ok (.if_icmp .ge 96, 3) := dk_162 0 96 (dk_at dksX1_found_2_0 12 rfl rfl)
theorem dX1_found_2_15 : decode cX1_found_2 15 = .ok (.aload_n 0, 1) := dk_42 (dk_at dksX1_found_2_0 15 rfl rfl)
theorem dX1_found_2_16 : decode cX1_found_2 16 = .ok (.getfield 10, 3) := dk_180 0 10 (dk_at dksX1_found_2_0 16 rfl rfl)
theorem dX1_found_2_19 : decode cX1_found_2 19 = .ok (.iconst 5, 1) := dk_8 (dk_at dksX1_found_2_0 19 rfl rfl)
theorem dX1_found_2_20 : decode cX1_found_2 20 = .ok (.iload_n 1, 1) := dk_27 (dk_at dksX1_found_2_0 20 rfl rfl)
theorem dX1_found_2_21 : decode cX1_found_2 21 = .ok (.imul, 1) := dk_104 (dk_at dksX1_found_2_0 21 rfl rfl)
theorem dX1_found_2_22 : decode cX1_found_2 22 = .ok (.iload 5, 2) := dk_21 5 (dk_at dksX1_found_2_0 22 rfl rfl)
theorem dX1_found_2_24 : decode cX1_found_2 24 = .ok (.iadd, 1) := dk_96 (dk_at dksX1_found_2_1 0 rfl rfl)
theorem dX1_found_2_25 : decode cX1_found_2 25 = .ok (.invokevirtual 74, 3) := dk_182 0 74 (dk_at dksX1_found_2_1 1 rfl rfl)
theorem dX1_found_2_28 : decode cX1_found_2 28 = .ok (.checkcast 47, 3) := dk_192 0 47 (dk_at dksX1_found_2_1 4 rfl rfl)
theorem dX1_found_2_31 : decode cX1_found_2 31 = .ok (.astore 6, 2) := dk_58 6 (dk_at dksX1_found_2_1 7 rfl rfl)
theorem dX1_found_2_33 : decode cX1_found_2 33 = .ok (.iconst 0, 1) := dk_3 (dk_at dksX1_found_2_1 9 rfl rfl)
theorem dX1_found_2_34 : decode cX1_found_2 34 = .ok (.istore 7, 2) := dk_54 7 (dk_at dksX1_found_2_1 10 rfl rfl)
theorem dX1_found_2_36 : decode cX1_found_2 36 = .ok (.iload 7, 2) := dk_21 7 (dk_at dksX1_found_2_1 12 rfl rfl)
theorem dX1_found_2_38 : decode cX1_found_2 38 = .ok (.iload 4, 2) := dk_21 4 (dk_at dksX1_found_2_1 14 rfl rfl)
theorem dX1_found_2_40 : decode cX1_found_2 40 = .ok (.aload 6, 2) := dk_25 6 (dk_at dksX1_found_2_1 16 rfl rfl)
theorem dX1_found_2_42 : decode cX1_found_2 42 = .ok (.invokevirtual 78, 3) := dk_182 0 78 (dk_at dksX1_found_2_1 18 rfl rfl)
theorem dX1_found_2_45 : decode cX1_found_2 45 = .ok (.invokestatic 82, 3) := dk_184 0 82 (dk_at dksX1_found_2_1 21 rfl rfl)
theorem dX1_found_2_48 : decode cX1_found_2 48 = .ok (.if_icmp .ge 54, 3) := dk_162 0 54 (dk_at dksX1_found_2_2 0 rfl rfl)
theorem dX1_found_2_51 : decode cX1_found_2 51 = .ok (.aload 6, 2) := dk_25 6 (dk_at dksX1_found_2_2 3 rfl rfl)
theorem dX1_found_2_53 : decode cX1_found_2 53 = .ok (.aload 6, 2) := dk_25 6 (dk_at dksX1_found_2_2 5 rfl rfl)
theorem dX1_found_2_55 : decode cX1_found_2 55 = .ok (.invokevirtual 78, 3) := dk_182 0 78 (dk_at dksX1_found_2_2 7 rfl rfl)
theorem dX1_found_2_58 : decode cX1_found_2 58 = .ok (.iconst 1, 1) := dk_4 (dk_at dksX1_found_2_2 10 rfl rfl)
theorem dX1_found_2_59 : decode cX1_found_2 59 = .ok (.isub, 1) := dk_100 (dk_at dksX1_found_2_2 11 rfl rfl)
theorem dX1_found_2_60 : decode cX1_found_2 60 = .ok (.iload 7, 2) := dk_21 7 (dk_at dksX1_found_2_2 12 rfl rfl)
theorem dX1_found_2_62 : decode cX1_found_2 62 = .ok (.isub, 1) := dk_100 (dk_at dksX1_found_2_2 14 rfl rfl)
theorem dX1_found_2_63 : decode cX1_found_2 63 = .ok (.invokevirtual 88, 3) := dk_182 0 88 (dk_at dksX1_found_2_2 15 rfl rfl)
theorem dX1_found_2_66 : decode cX1_found_2 66 = .ok (.checkcast 69, 3) := dk_192 0 69 (dk_at dksX1_found_2_2 18 rfl rfl)
theorem dX1_found_2_69 : decode cX1_found_2 69 = .ok (.astore 8, 2) := dk_58 8 (dk_at dksX1_found_2_2 21 rfl rfl)
theorem dX1_found_2_71 : decode cX1_found_2 71 = .ok (.aload 8, 2) := dk_25 8 (dk_at dksX1_found_2_3 0 rfl rfl)
theorem dX1_found_2_73 : decode cX1_found_2 73 = .ok (.getfield 89, 3) := dk_180 0 89 (dk_at dksX1_found_2_3 2 rfl rfl)
theorem dX1_found_2_76 : decode cX1_found_2 76 = .ok (.ifnonnull 20, 3) := dk_199 0 20 (dk_at dksX1_found_2_3 5 rfl rfl)
theorem dX1_found_2_79 : decode cX1_found_2 79 = .ok (.aload_n 0, 1) := dk_42 (dk_at dksX1_found_2_3 8 rfl rfl)
theorem dX1_found_2_80 : decode cX1_found_2 80 = .ok (.aload 8, 2) := dk_25 8 (dk_at dksX1_found_2_3 9 rfl rfl)
theorem dX1_found_2_82 : decode cX1_found_2 82 = .ok (.iload_n 2, 1) := dk_28 (dk_at dksX1_found_2_3 11 rfl rfl)
theorem dX1_found_2_83 : decode cX1_found_2 83 = .ok (.invokevirtual 93, 3) := dk_182 0 93 (dk_at dksX1_found_2_3 12 rfl rfl)
theorem dX1_found_2_86 : decode cX1_found_2 86 = .ok (.ifCond .eq 10, 3) := dk_153 0 10 (dk_at dksX1_found_2_3 15 rfl rfl)
theorem dX1_found_2_89 : decode cX1_found_2 89 = .ok (.aload 8, 2) := dk_25 8 (dk_at dksX1_found_2_3 18 rfl rfl)
theorem dX1_found_2_91 : decode cX1_found_2 91 = .ok (.astore_n 3, 1) := dk_78 (dk_at dksX1_found_2_3 20 rfl rfl)
theorem dX1_found_2_92 : decode cX1_found_2 92 = .ok (.iload 7, 2) := dk_21 7 (dk_at dksX1_found_2_3 21 rfl rfl)
theorem dX1_found_2_94 : decode cX1_found_2 94 = .ok (.istore 4, 2) := dk_54 4 (dk_at dksX1_found_2_4 0 rfl rfl)
theorem dX1_found_2_96 : decode cX1_found_2 96 = .ok (.iinc 7 1, 3) := dk_132 7 1 (dk_at dksX1_found_2_4 2 rfl rfl)
theorem dX1_found_2_99 : decode cX1_found_2 99 = .ok (.goto (-63), 3) := dk_167 255 193 (dk_at dksX1_found_2_4 5 rfl rfl)
theorem dX1_found_2_102 : decode cX1_found_2 102 = .ok (.iinc 5 1, 3) := dk_132 5 1 (dk_at dksX1_found_2_4 8 rfl rfl)
theorem dX1_found_2_105 : decode cX1_found_2 105 = .ok (.goto (-96), 3) := dk_167 255 160 (dk_at dksX1_found_2_4 11 rfl rfl)
theorem dX1_found_2_108 : decode cX1_found_2 108 = .ok (.aload_n 3, 1) := dk_45 (dk_at dksX1_found_2_4 14 rfl rfl)
theorem dX1_found_2_109 : decode cX1_found_2 109 = .ok (.areturn, 1) := dk_176 (dk_at dksX1_found_2_4 15 rfl rfl)
abbrev cX1_fits : ByteArray := prog_1_method_2_code
def yX1_fits : MethodName := ⟨RX1, "fits", "(LTrunkYards$Wagon;I)Z"⟩
def dkwX1_fits_1 : List UInt8 := [50, 28, 51, 153, 0, 7, 4, 167, 0, 4, 3, 172]
abbrev dktX1_fits_1 : List UInt8 := dkwX1_fits_1 ++ []
def dkwX1_fits_0 : List UInt8 := [43, 180, 0, 68, 2, 159, 0, 25, 43, 180, 0, 68, 28, 159, 0, 17, 42, 180, 0, 21, 43, 180, 0, 68]
abbrev dktX1_fits_0 : List UInt8 := dkwX1_fits_0 ++ dktX1_fits_1
theorem dksX1_fits_0 : cX1_fits.data.toList.drop 0 = dktX1_fits_0 := by decide +kernel
theorem dksX1_fits_1 : cX1_fits.data.toList.drop 24 = dktX1_fits_1 := dk_seg dksX1_fits_0 24 rfl rfl
theorem dX1_fits_0 : decode cX1_fits 0 = .ok (.aload_n 1, 1) := dk_43 (dk_at dksX1_fits_0 0 rfl rfl)
theorem dX1_fits_1 : decode cX1_fits 1 = .ok (.getfield 68, 3) := dk_180 0 68 (dk_at dksX1_fits_0 1 rfl rfl)
theorem dX1_fits_4 : decode cX1_fits 4 = .ok (.iconst (-1), 1) := dk_2 (dk_at dksX1_fits_0 4 rfl rfl)
theorem dX1_fits_5 : decode cX1_fits 5 = .ok (.if_icmp .eq 25, 3) := dk_159 0 25 (dk_at dksX1_fits_0 5 rfl rfl)
theorem dX1_fits_8 : decode cX1_fits 8 = .ok (.aload_n 1, 1) := dk_43 (dk_at dksX1_fits_0 8 rfl rfl)
theorem dX1_fits_9 : decode cX1_fits 9 = .ok (.getfield 68, 3) := dk_180 0 68 (dk_at dksX1_fits_0 9 rfl rfl)
theorem dX1_fits_12 : decode cX1_fits 12 = .ok (.iload_n 2, 1) := dk_28 (dk_at dksX1_fits_0 12 rfl rfl)
theorem dX1_fits_13 : decode cX1_fits 13 = .ok (.if_icmp .eq 17, 3) := dk_159 0 17 (dk_at dksX1_fits_0 13 rfl rfl)
theorem dX1_fits_16 : decode cX1_fits 16 = .ok (.aload_n 0, 1) := dk_42 (dk_at dksX1_fits_0 16 rfl rfl)
theorem dX1_fits_17 : decode cX1_fits 17 = .ok (.getfield 21, 3) := dk_180 0 21 (dk_at dksX1_fits_0 17 rfl rfl)
theorem dX1_fits_20 : decode cX1_fits 20 = .ok (.aload_n 1, 1) := dk_43 (dk_at dksX1_fits_0 20 rfl rfl)
theorem dX1_fits_21 : decode cX1_fits 21 = .ok (.getfield 68, 3) := dk_180 0 68 (dk_at dksX1_fits_0 21 rfl rfl)
theorem dX1_fits_24 : decode cX1_fits 24 = .ok (.aaload, 1) := dk_50 (dk_at dksX1_fits_1 0 rfl rfl)
theorem dX1_fits_25 : decode cX1_fits 25 = .ok (.iload_n 2, 1) := dk_28 (dk_at dksX1_fits_1 1 rfl rfl)
theorem dX1_fits_26 : decode cX1_fits 26 = .ok (.baload, 1) := dk_51 (dk_at dksX1_fits_1 2 rfl rfl)
theorem dX1_fits_27 : decode cX1_fits 27 = .ok (.ifCond .eq 7, 3) := dk_153 0 7 (dk_at dksX1_fits_1 3 rfl rfl)
theorem dX1_fits_30 : decode cX1_fits 30 = .ok (.iconst 1, 1) := dk_4 (dk_at dksX1_fits_1 6 rfl rfl)
theorem dX1_fits_31 : decode cX1_fits 31 = .ok (.goto 4, 3) := dk_167 0 4 (dk_at dksX1_fits_1 7 rfl rfl)
theorem dX1_fits_34 : decode cX1_fits 34 = .ok (.iconst 0, 1) := dk_3 (dk_at dksX1_fits_1 10 rfl rfl)
theorem dX1_fits_35 : decode cX1_fits 35 = .ok (.ireturn, 1) := dk_172 (dk_at dksX1_fits_1 11 rfl rfl)
abbrev cX1_confirm : ByteArray := prog_1_method_30_code
def yX1_confirm : MethodName := ⟨RX1, "confirm", "(I)I"⟩
def dkwX1_confirm_1 : List UInt8 := [180, 0, 236, 78, 45, 178, 0, 252, 182, 1, 2, 54, 4, 44, 1, 181, 0, 236, 45, 180, 0, 214, 172]
abbrev dktX1_confirm_1 : List UInt8 := dkwX1_confirm_1 ++ []
def dkwX1_confirm_0 : List UInt8 := [42, 27, 182, 0, 249, 77, 44, 180, 0, 236, 198, 0, 7, 4, 167, 0, 4, 3, 184, 0, 154, 44]
abbrev dktX1_confirm_0 : List UInt8 := dkwX1_confirm_0 ++ dktX1_confirm_1
theorem dksX1_confirm_0 : cX1_confirm.data.toList.drop 0 = dktX1_confirm_0 := by decide +kernel
theorem dksX1_confirm_1 : cX1_confirm.data.toList.drop 22 = dktX1_confirm_1 := dk_seg dksX1_confirm_0 22 rfl rfl
theorem dX1_confirm_0 : decode cX1_confirm 0 = .ok (.aload_n 0, 1) := dk_42 (dk_at dksX1_confirm_0 0 rfl rfl)
theorem dX1_confirm_1 : decode cX1_confirm 1 = .ok (.iload_n 1, 1) := dk_27 (dk_at dksX1_confirm_0 1 rfl rfl)
theorem dX1_confirm_2 : decode cX1_confirm 2 = .ok (.invokevirtual 249, 3) := dk_182 0 249 (dk_at dksX1_confirm_0 2 rfl rfl)
theorem dX1_confirm_5 : decode cX1_confirm 5 = .ok (.astore_n 2, 1) := dk_77 (dk_at dksX1_confirm_0 5 rfl rfl)
theorem dX1_confirm_6 : decode cX1_confirm 6 = .ok (.aload_n 2, 1) := dk_44 (dk_at dksX1_confirm_0 6 rfl rfl)
theorem dX1_confirm_7 : decode cX1_confirm 7 = .ok (.getfield 236, 3) := dk_180 0 236 (dk_at dksX1_confirm_0 7 rfl rfl)
theorem dX1_confirm_10 : decode cX1_confirm 10 = .ok (.ifnull 7, 3) := dk_198 0 7 (dk_at dksX1_confirm_0 10 rfl rfl)
theorem dX1_confirm_13 : decode cX1_confirm 13 = .ok (.iconst 1, 1) := dk_4 (dk_at dksX1_confirm_0 13 rfl rfl)
theorem dX1_confirm_14 : decode cX1_confirm 14 = .ok (.goto 4, 3) := dk_167 0 4 (dk_at dksX1_confirm_0 14 rfl rfl)
theorem dX1_confirm_17 : decode cX1_confirm 17 = .ok (.iconst 0, 1) := dk_3 (dk_at dksX1_confirm_0 17 rfl rfl)
theorem dX1_confirm_18 : decode cX1_confirm 18 = .ok (.invokestatic 154, 3) := dk_184 0 154 (dk_at dksX1_confirm_0 18 rfl rfl)
theorem dX1_confirm_21 : decode cX1_confirm 21 = .ok (.aload_n 2, 1) := dk_44 (dk_at dksX1_confirm_0 21 rfl rfl)
theorem dX1_confirm_22 : decode cX1_confirm 22 = .ok (.getfield 236, 3) := dk_180 0 236 (dk_at dksX1_confirm_1 0 rfl rfl)
theorem dX1_confirm_25 : decode cX1_confirm 25 = .ok (.astore_n 3, 1) := dk_78 (dk_at dksX1_confirm_1 3 rfl rfl)
theorem dX1_confirm_26 : decode cX1_confirm 26 = .ok (.aload_n 3, 1) := dk_45 (dk_at dksX1_confirm_1 4 rfl rfl)
theorem dX1_confirm_27 : decode cX1_confirm 27 = .ok (.getstatic 252, 3) := dk_178 0 252 (dk_at dksX1_confirm_1 5 rfl rfl)
theorem dX1_confirm_30 : decode cX1_confirm 30 = .ok (.invokevirtual 258, 3) := dk_182 1 2 (dk_at dksX1_confirm_1 8 rfl rfl)
theorem dX1_confirm_33 : decode cX1_confirm 33 = .ok (.istore 4, 2) := dk_54 4 (dk_at dksX1_confirm_1 11 rfl rfl)
theorem dX1_confirm_35 : decode cX1_confirm 35 = .ok (.aload_n 2, 1) := dk_44 (dk_at dksX1_confirm_1 13 rfl rfl)
theorem dX1_confirm_36 : decode cX1_confirm 36 = .ok (.aconst_null, 1) := dk_1 (dk_at dksX1_confirm_1 14 rfl rfl)
theorem dX1_confirm_37 : decode cX1_confirm 37 = .ok (.putfield 236, 3) := dk_181 0 236 (dk_at dksX1_confirm_1 15 rfl rfl)
theorem dX1_confirm_40 : decode cX1_confirm 40 = .ok (.aload_n 3, 1) := dk_45 (dk_at dksX1_confirm_1 18 rfl rfl)
theorem dX1_confirm_41 : decode cX1_confirm 41 = .ok (.getfield 214, 3) := dk_180 0 214 (dk_at dksX1_confirm_1 19 rfl rfl)
theorem dX1_confirm_44 : decode cX1_confirm 44 = .ok (.ireturn, 1) := dk_172 (dk_at dksX1_confirm_1 22 rfl rfl)
abbrev cX1_goingOn : ByteArray := prog_1_method_14_code
def yX1_goingOn : MethodName := ⟨RX1, "goingOn", "(I)LTrunkYards$Call;"⟩
def dkwX1_goingOn_0 : List UInt8 := [42, 27, 182, 0, 150, 77, 44, 180, 0, 123, 184, 0, 154, 44, 176]
abbrev dktX1_goingOn_0 : List UInt8 := dkwX1_goingOn_0 ++ []
theorem dksX1_goingOn_0 : cX1_goingOn.data.toList.drop 0 = dktX1_goingOn_0 := by decide +kernel
theorem dX1_goingOn_0 : decode cX1_goingOn 0 = .ok (.aload_n 0, 1) := dk_42 (dk_at dksX1_goingOn_0 0 rfl rfl)
theorem dX1_goingOn_1 : decode cX1_goingOn 1 = .ok (.iload_n 1, 1) := dk_27 (dk_at dksX1_goingOn_0 1 rfl rfl)
theorem dX1_goingOn_2 : decode cX1_goingOn 2 = .ok (.invokevirtual 150, 3) := dk_182 0 150 (dk_at dksX1_goingOn_0 2 rfl rfl)
theorem dX1_goingOn_5 : decode cX1_goingOn 5 = .ok (.astore_n 2, 1) := dk_77 (dk_at dksX1_goingOn_0 5 rfl rfl)
theorem dX1_goingOn_6 : decode cX1_goingOn 6 = .ok (.aload_n 2, 1) := dk_44 (dk_at dksX1_goingOn_0 6 rfl rfl)
theorem dX1_goingOn_7 : decode cX1_goingOn 7 = .ok (.getfield 123, 3) := dk_180 0 123 (dk_at dksX1_goingOn_0 7 rfl rfl)
theorem dX1_goingOn_10 : decode cX1_goingOn 10 = .ok (.invokestatic 154, 3) := dk_184 0 154 (dk_at dksX1_goingOn_0 10 rfl rfl)
theorem dX1_goingOn_13 : decode cX1_goingOn 13 = .ok (.aload_n 2, 1) := dk_44 (dk_at dksX1_goingOn_0 13 rfl rfl)
theorem dX1_goingOn_14 : decode cX1_goingOn 14 = .ok (.areturn, 1) := dk_176 (dk_at dksX1_goingOn_0 14 rfl rfl)
abbrev cX1_resume : ByteArray := prog_1_method_32_code
def yX1_resume : MethodName := ⟨RX1, "resume", "(II)I"⟩
def dkwX1_resume_2 : List UInt8 := [167, 0, 4, 3, 184, 0, 154, 45, 25, 4, 181, 0, 236, 25, 4, 178, 1, 22, 182, 1, 2, 172]
abbrev dktX1_resume_2 : List UInt8 := dkwX1_resume_2 ++ []
def dkwX1_resume_1 : List UInt8 := [199, 0, 27, 25, 4, 180, 1, 12, 178, 1, 15, 166, 0, 16, 25, 4, 45, 184, 1, 18, 153, 0, 7, 4]
abbrev dktX1_resume_1 : List UInt8 := dkwX1_resume_1 ++ dktX1_resume_2
def dkwX1_resume_0 : List UInt8 := [42, 27, 182, 0, 150, 78, 42, 28, 182, 1, 8, 58, 4, 45, 180, 0, 123, 153, 0, 34, 45, 180, 0, 236]
abbrev dktX1_resume_0 : List UInt8 := dkwX1_resume_0 ++ dktX1_resume_1
theorem dksX1_resume_0 : cX1_resume.data.toList.drop 0 = dktX1_resume_0 := by decide +kernel
theorem dksX1_resume_1 : cX1_resume.data.toList.drop 24 = dktX1_resume_1 := dk_seg dksX1_resume_0 24 rfl rfl
theorem dksX1_resume_2 : cX1_resume.data.toList.drop 48 = dktX1_resume_2 := dk_seg dksX1_resume_1 24 rfl rfl
theorem dX1_resume_0 : decode cX1_resume 0 = .ok (.aload_n 0, 1) := dk_42 (dk_at dksX1_resume_0 0 rfl rfl)
theorem dX1_resume_1 : decode cX1_resume 1 = .ok (.iload_n 1, 1) := dk_27 (dk_at dksX1_resume_0 1 rfl rfl)
theorem dX1_resume_2 : decode cX1_resume 2 = .ok (.invokevirtual 150, 3) := dk_182 0 150 (dk_at dksX1_resume_0 2 rfl rfl)
theorem dX1_resume_5 : decode cX1_resume 5 = .ok (.astore_n 3, 1) := dk_78 (dk_at dksX1_resume_0 5 rfl rfl)
theorem dX1_resume_6 : decode cX1_resume 6 = .ok (.aload_n 0, 1) := dk_42 (dk_at dksX1_resume_0 6 rfl rfl)
theorem dX1_resume_7 : decode cX1_resume 7 = .ok (.iload_n 2, 1) := dk_28 (dk_at dksX1_resume_0 7 rfl rfl)
theorem dX1_resume_8 : decode cX1_resume 8 = .ok (.invokevirtual 264, 3) := dk_182 1 8 (dk_at dksX1_resume_0 8 rfl rfl)
theorem dX1_resume_11 : decode cX1_resume 11 = .ok (.astore 4, 2) := dk_58 4 (dk_at dksX1_resume_0 11 rfl rfl)
theorem dX1_resume_13 : decode cX1_resume 13 = .ok (.aload_n 3, 1) := dk_45 (dk_at dksX1_resume_0 13 rfl rfl)
theorem dX1_resume_14 : decode cX1_resume 14 = .ok (.getfield 123, 3) := dk_180 0 123 (dk_at dksX1_resume_0 14 rfl rfl)
theorem dX1_resume_17 : decode cX1_resume 17 = .ok (.ifCond .eq 34, 3) := dk_153 0 34 (dk_at dksX1_resume_0 17 rfl rfl)
theorem dX1_resume_20 : decode cX1_resume 20 = .ok (.aload_n 3, 1) := dk_45 (dk_at dksX1_resume_0 20 rfl rfl)
theorem dX1_resume_21 : decode cX1_resume 21 = .ok (.getfield 236, 3) := dk_180 0 236 (dk_at dksX1_resume_0 21 rfl rfl)
theorem dX1_resume_24 : decode cX1_resume 24 = .ok (.ifnonnull 27, 3) := dk_199 0 27 (dk_at dksX1_resume_1 0 rfl rfl)
theorem dX1_resume_27 : decode cX1_resume 27 = .ok (.aload 4, 2) := dk_25 4 (dk_at dksX1_resume_1 3 rfl rfl)
theorem dX1_resume_29 : decode cX1_resume 29 = .ok (.getfield 268, 3) := dk_180 1 12 (dk_at dksX1_resume_1 5 rfl rfl)
theorem dX1_resume_32 : decode cX1_resume 32 = .ok (.getstatic 271, 3) := dk_178 1 15 (dk_at dksX1_resume_1 8 rfl rfl)
theorem dX1_resume_35 : decode cX1_resume 35 = .ok (.if_acmp .ne 16, 3) := dk_166 0 16 (dk_at dksX1_resume_1 11 rfl rfl)
theorem dX1_resume_38 : decode cX1_resume 38 = .ok (.aload 4, 2) := dk_25 4 (dk_at dksX1_resume_1 14 rfl rfl)
theorem dX1_resume_40 : decode cX1_resume 40 = .ok (.aload_n 3, 1) := dk_45 (dk_at dksX1_resume_1 16 rfl rfl)
theorem dX1_resume_41 : decode cX1_resume 41 = .ok (.invokestatic 274, 3) := dk_184 1 18 (dk_at dksX1_resume_1 17 rfl rfl)
theorem dX1_resume_44 : decode cX1_resume 44 = .ok (.ifCond .eq 7, 3) := dk_153 0 7 (dk_at dksX1_resume_1 20 rfl rfl)
theorem dX1_resume_47 : decode cX1_resume 47 = .ok (.iconst 1, 1) := dk_4 (dk_at dksX1_resume_1 23 rfl rfl)
theorem dX1_resume_48 : decode cX1_resume 48 = .ok (.goto 4, 3) := dk_167 0 4 (dk_at dksX1_resume_2 0 rfl rfl)
theorem dX1_resume_51 : decode cX1_resume 51 = .ok (.iconst 0, 1) := dk_3 (dk_at dksX1_resume_2 3 rfl rfl)
theorem dX1_resume_52 : decode cX1_resume 52 = .ok (.invokestatic 154, 3) := dk_184 0 154 (dk_at dksX1_resume_2 4 rfl rfl)
theorem dX1_resume_55 : decode cX1_resume 55 = .ok (.aload_n 3, 1) := dk_45 (dk_at dksX1_resume_2 7 rfl rfl)
theorem dX1_resume_56 : decode cX1_resume 56 = .ok (.aload 4, 2) := dk_25 4 (dk_at dksX1_resume_2 8 rfl rfl)
theorem dX1_resume_58 : decode cX1_resume 58 = .ok (.putfield 236, 3) := dk_181 0 236 (dk_at dksX1_resume_2 10 rfl rfl)
theorem dX1_resume_61 : decode cX1_resume 61 = .ok (.aload 4, 2) := dk_25 4 (dk_at dksX1_resume_2 13 rfl rfl)
theorem dX1_resume_63 : decode cX1_resume 63 = .ok (.getstatic 278, 3) := dk_178 1 22 (dk_at dksX1_resume_2 15 rfl rfl)
theorem dX1_resume_66 : decode cX1_resume 66 = .ok (.invokevirtual 258, 3) := dk_182 1 2 (dk_at dksX1_resume_2 18 rfl rfl)
theorem dX1_resume_69 : decode cX1_resume 69 = .ok (.ireturn, 1) := dk_172 (dk_at dksX1_resume_2 21 rfl rfl)
abbrev cX1_bookingOf : ByteArray := prog_1_method_15_code
def yX1_bookingOf : MethodName := ⟨RX1, "bookingOf", "(I)LTrunkYards$Booking;"⟩
def dkwX1_bookingOf_0 : List UInt8 := [27, 42, 180, 0, 38, 182, 0, 146, 184, 0, 147, 42, 180, 0, 38, 27, 182, 0, 74, 192, 0, 158, 176]
abbrev dktX1_bookingOf_0 : List UInt8 := dkwX1_bookingOf_0 ++ []
theorem dksX1_bookingOf_0 : cX1_bookingOf.data.toList.drop 0 = dktX1_bookingOf_0 := by decide +kernel
theorem dX1_bookingOf_0 : decode cX1_bookingOf 0 = .ok (.iload_n 1, 1) := dk_27 (dk_at dksX1_bookingOf_0 0 rfl rfl)
theorem dX1_bookingOf_1 : decode cX1_bookingOf 1 = .ok (.aload_n 0, 1) := dk_42 (dk_at dksX1_bookingOf_0 1 rfl rfl)
theorem dX1_bookingOf_2 : decode cX1_bookingOf 2 = .ok (.getfield 38, 3) := dk_180 0 38 (dk_at dksX1_bookingOf_0 2 rfl rfl)
theorem dX1_bookingOf_5 : decode cX1_bookingOf 5 = .ok (.invokevirtual 146, 3) := dk_182 0 146 (dk_at dksX1_bookingOf_0 5 rfl rfl)
theorem dX1_bookingOf_8 : decode cX1_bookingOf 8 = .ok (.invokestatic 147, 3) := dk_184 0 147 (dk_at dksX1_bookingOf_0 8 rfl rfl)
theorem dX1_bookingOf_11 : decode cX1_bookingOf 11 = .ok (.aload_n 0, 1) := dk_42 (dk_at dksX1_bookingOf_0 11 rfl rfl)
theorem dX1_bookingOf_12 : decode cX1_bookingOf 12 = .ok (.getfield 38, 3) := dk_180 0 38 (dk_at dksX1_bookingOf_0 12 rfl rfl)
theorem dX1_bookingOf_15 : decode cX1_bookingOf 15 = .ok (.iload_n 1, 1) := dk_27 (dk_at dksX1_bookingOf_0 15 rfl rfl)
theorem dX1_bookingOf_16 : decode cX1_bookingOf 16 = .ok (.invokevirtual 74, 3) := dk_182 0 74 (dk_at dksX1_bookingOf_0 16 rfl rfl)
theorem dX1_bookingOf_19 : decode cX1_bookingOf 19 = .ok (.checkcast 158, 3) := dk_192 0 158 (dk_at dksX1_bookingOf_0 19 rfl rfl)
theorem dX1_bookingOf_22 : decode cX1_bookingOf 22 = .ok (.areturn, 1) := dk_176 (dk_at dksX1_bookingOf_0 22 rfl rfl)
abbrev cX1_isFor : ByteArray := prog_1_method_31_code
def yX1_isFor : MethodName := ⟨RX1, "isFor", "(LTrunkYards$Booking;LTrunkYards$Call;)Z"⟩
def dkwX1_isFor_1 : List UInt8 := [167, 0, 4, 3, 172]
abbrev dktX1_isFor_1 : List UInt8 := dkwX1_isFor_1 ++ []
def dkwX1_isFor_0 : List UInt8 := [42, 180, 1, 6, 43, 180, 0, 215, 160, 0, 18, 42, 180, 1, 7, 43, 180, 0, 127, 160, 0, 7, 4]
abbrev dktX1_isFor_0 : List UInt8 := dkwX1_isFor_0 ++ dktX1_isFor_1
theorem dksX1_isFor_0 : cX1_isFor.data.toList.drop 0 = dktX1_isFor_0 := by decide +kernel
theorem dksX1_isFor_1 : cX1_isFor.data.toList.drop 23 = dktX1_isFor_1 := dk_seg dksX1_isFor_0 23 rfl rfl
theorem dX1_isFor_0 : decode cX1_isFor 0 = .ok (.aload_n 0, 1) := dk_42 (dk_at dksX1_isFor_0 0 rfl rfl)
theorem dX1_isFor_1 : decode cX1_isFor 1 = .ok (.getfield 262, 3) := dk_180 1 6 (dk_at dksX1_isFor_0 1 rfl rfl)
theorem dX1_isFor_4 : decode cX1_isFor 4 = .ok (.aload_n 1, 1) := dk_43 (dk_at dksX1_isFor_0 4 rfl rfl)
theorem dX1_isFor_5 : decode cX1_isFor 5 = .ok (.getfield 215, 3) := dk_180 0 215 (dk_at dksX1_isFor_0 5 rfl rfl)
theorem dX1_isFor_8 : decode cX1_isFor 8 = .ok (.if_icmp .ne 18, 3) := dk_160 0 18 (dk_at dksX1_isFor_0 8 rfl rfl)
theorem dX1_isFor_11 : decode cX1_isFor 11 = .ok (.aload_n 0, 1) := dk_42 (dk_at dksX1_isFor_0 11 rfl rfl)
theorem dX1_isFor_12 : decode cX1_isFor 12 = .ok (.getfield 263, 3) := dk_180 1 7 (dk_at dksX1_isFor_0 12 rfl rfl)
theorem dX1_isFor_15 : decode cX1_isFor 15 = .ok (.aload_n 1, 1) := dk_43 (dk_at dksX1_isFor_0 15 rfl rfl)
theorem dX1_isFor_16 : decode cX1_isFor 16 = .ok (.getfield 127, 3) := dk_180 0 127 (dk_at dksX1_isFor_0 16 rfl rfl)
theorem dX1_isFor_19 : decode cX1_isFor 19 = .ok (.if_icmp .ne 7, 3) := dk_160 0 7 (dk_at dksX1_isFor_0 19 rfl rfl)
theorem dX1_isFor_22 : decode cX1_isFor 22 = .ok (.iconst 1, 1) := dk_4 (dk_at dksX1_isFor_0 22 rfl rfl)
theorem dX1_isFor_23 : decode cX1_isFor 23 = .ok (.goto 4, 3) := dk_167 0 4 (dk_at dksX1_isFor_1 0 rfl rfl)
theorem dX1_isFor_26 : decode cX1_isFor 26 = .ok (.iconst 0, 1) := dk_3 (dk_at dksX1_isFor_1 3 rfl rfl)
theorem dX1_isFor_27 : decode cX1_isFor 27 = .ok (.ireturn, 1) := dk_172 (dk_at dksX1_isFor_1 4 rfl rfl)
abbrev cX1_cancel : ByteArray := prog_1_method_33_code
def yX1_cancel : MethodName := ⟨RX1, "cancel", "(II)I"⟩
def dkwX1_cancel_2 : List UInt8 := [184, 0, 154, 25, 4, 178, 1, 25, 182, 1, 2, 172]
abbrev dktX1_cancel_2 : List UInt8 := dkwX1_cancel_2 ++ []
def dkwX1_cancel_1 : List UInt8 := [180, 1, 12, 178, 0, 252, 166, 0, 16, 25, 4, 45, 184, 1, 18, 153, 0, 7, 4, 167, 0, 4, 3]
abbrev dktX1_cancel_1 : List UInt8 := dkwX1_cancel_1 ++ dktX1_cancel_2
def dkwX1_cancel_0 : List UInt8 := [42, 27, 182, 0, 150, 78, 42, 28, 182, 1, 8, 58, 4, 45, 180, 0, 123, 153, 0, 27, 25, 4]
abbrev dktX1_cancel_0 : List UInt8 := dkwX1_cancel_0 ++ dktX1_cancel_1
theorem dksX1_cancel_0 : cX1_cancel.data.toList.drop 0 = dktX1_cancel_0 := by decide +kernel
theorem dksX1_cancel_1 : cX1_cancel.data.toList.drop 22 = dktX1_cancel_1 := dk_seg dksX1_cancel_0 22 rfl rfl
theorem dksX1_cancel_2 : cX1_cancel.data.toList.drop 45 = dktX1_cancel_2 := dk_seg dksX1_cancel_1 23 rfl rfl
theorem dX1_cancel_0 : decode cX1_cancel 0 = .ok (.aload_n 0, 1) := dk_42 (dk_at dksX1_cancel_0 0 rfl rfl)
theorem dX1_cancel_1 : decode cX1_cancel 1 = .ok (.iload_n 1, 1) := dk_27 (dk_at dksX1_cancel_0 1 rfl rfl)
theorem dX1_cancel_2 : decode cX1_cancel 2 = .ok (.invokevirtual 150, 3) := dk_182 0 150 (dk_at dksX1_cancel_0 2 rfl rfl)
theorem dX1_cancel_5 : decode cX1_cancel 5 = .ok (.astore_n 3, 1) := dk_78 (dk_at dksX1_cancel_0 5 rfl rfl)
theorem dX1_cancel_6 : decode cX1_cancel 6 = .ok (.aload_n 0, 1) := dk_42 (dk_at dksX1_cancel_0 6 rfl rfl)
theorem dX1_cancel_7 : decode cX1_cancel 7 = .ok (.iload_n 2, 1) := dk_28 (dk_at dksX1_cancel_0 7 rfl rfl)
theorem dX1_cancel_8 : decode cX1_cancel 8 = .ok (.invokevirtual 264, 3) := dk_182 1 8 (dk_at dksX1_cancel_0 8 rfl rfl)
theorem dX1_cancel_11 : decode cX1_cancel 11 = .ok (.astore 4, 2) := dk_58 4 (dk_at dksX1_cancel_0 11 rfl rfl)
theorem dX1_cancel_13 : decode cX1_cancel 13 = .ok (.aload_n 3, 1) := dk_45 (dk_at dksX1_cancel_0 13 rfl rfl)
theorem dX1_cancel_14 : decode cX1_cancel 14 = .ok (.getfield 123, 3) := dk_180 0 123 (dk_at dksX1_cancel_0 14 rfl rfl)
theorem dX1_cancel_17 : decode cX1_cancel 17 = .ok (.ifCond .eq 27, 3) := dk_153 0 27 (dk_at dksX1_cancel_0 17 rfl rfl)
theorem dX1_cancel_20 : decode cX1_cancel 20 = .ok (.aload 4, 2) := dk_25 4 (dk_at dksX1_cancel_0 20 rfl rfl)
theorem dX1_cancel_22 : decode cX1_cancel 22 = .ok (.getfield 268, 3) := dk_180 1 12 (dk_at dksX1_cancel_1 0 rfl rfl)
theorem dX1_cancel_25 : decode cX1_cancel 25 = .ok (.getstatic 252, 3) := dk_178 0 252 (dk_at dksX1_cancel_1 3 rfl rfl)
theorem dX1_cancel_28 : decode cX1_cancel 28 = .ok (.if_acmp .ne 16, 3) := dk_166 0 16 (dk_at dksX1_cancel_1 6 rfl rfl)
theorem dX1_cancel_31 : decode cX1_cancel 31 = .ok (.aload 4, 2) := dk_25 4 (dk_at dksX1_cancel_1 9 rfl rfl)
theorem dX1_cancel_33 : decode cX1_cancel 33 = .ok (.aload_n 3, 1) := dk_45 (dk_at dksX1_cancel_1 11 rfl rfl)
theorem dX1_cancel_34 : decode cX1_cancel 34 = .ok (.invokestatic 274, 3) := dk_184 1 18 (dk_at dksX1_cancel_1 12 rfl rfl)
theorem dX1_cancel_37 : decode cX1_cancel 37 = .ok (.ifCond .eq 7, 3) := dk_153 0 7 (dk_at dksX1_cancel_1 15 rfl rfl)
theorem dX1_cancel_40 : decode cX1_cancel 40 = .ok (.iconst 1, 1) := dk_4 (dk_at dksX1_cancel_1 18 rfl rfl)
theorem dX1_cancel_41 : decode cX1_cancel 41 = .ok (.goto 4, 3) := dk_167 0 4 (dk_at dksX1_cancel_1 19 rfl rfl)
theorem dX1_cancel_44 : decode cX1_cancel 44 = .ok (.iconst 0, 1) := dk_3 (dk_at dksX1_cancel_1 22 rfl rfl)
theorem dX1_cancel_45 : decode cX1_cancel 45 = .ok (.invokestatic 154, 3) := dk_184 0 154 (dk_at dksX1_cancel_2 0 rfl rfl)
theorem dX1_cancel_48 : decode cX1_cancel 48 = .ok (.aload 4, 2) := dk_25 4 (dk_at dksX1_cancel_2 3 rfl rfl)
theorem dX1_cancel_50 : decode cX1_cancel 50 = .ok (.getstatic 281, 3) := dk_178 1 25 (dk_at dksX1_cancel_2 5 rfl rfl)
theorem dX1_cancel_53 : decode cX1_cancel 53 = .ok (.invokevirtual 258, 3) := dk_182 1 2 (dk_at dksX1_cancel_2 8 rfl rfl)
theorem dX1_cancel_56 : decode cX1_cancel 56 = .ok (.ireturn, 1) := dk_172 (dk_at dksX1_cancel_2 11 rfl rfl)
abbrev cX1_hangUp : ByteArray := prog_1_method_34_code
def yX1_hangUp : MethodName := ⟨RX1, "hangUp", "(I)I"⟩
def dkwX1_hangUp_1 : List UInt8 := [182, 1, 2, 62, 44, 182, 1, 28, 29, 172]
abbrev dktX1_hangUp_1 : List UInt8 := dkwX1_hangUp_1 ++ []
def dkwX1_hangUp_0 : List UInt8 := [42, 27, 182, 0, 249, 77, 44, 180, 0, 236, 199, 0, 7, 3, 167, 0, 13, 44, 180, 0, 236, 178, 1, 25]
abbrev dktX1_hangUp_0 : List UInt8 := dkwX1_hangUp_0 ++ dktX1_hangUp_1
theorem dksX1_hangUp_0 : cX1_hangUp.data.toList.drop 0 = dktX1_hangUp_0 := by decide +kernel
theorem dksX1_hangUp_1 : cX1_hangUp.data.toList.drop 24 = dktX1_hangUp_1 := dk_seg dksX1_hangUp_0 24 rfl rfl
theorem dX1_hangUp_0 : decode cX1_hangUp 0 = .ok (.aload_n 0, 1) := dk_42 (dk_at dksX1_hangUp_0 0 rfl rfl)
theorem dX1_hangUp_1 : decode cX1_hangUp 1 = .ok (.iload_n 1, 1) := dk_27 (dk_at dksX1_hangUp_0 1 rfl rfl)
theorem dX1_hangUp_2 : decode cX1_hangUp 2 = .ok (.invokevirtual 249, 3) := dk_182 0 249 (dk_at dksX1_hangUp_0 2 rfl rfl)
theorem dX1_hangUp_5 : decode cX1_hangUp 5 = .ok (.astore_n 2, 1) := dk_77 (dk_at dksX1_hangUp_0 5 rfl rfl)
theorem dX1_hangUp_6 : decode cX1_hangUp 6 = .ok (.aload_n 2, 1) := dk_44 (dk_at dksX1_hangUp_0 6 rfl rfl)
theorem dX1_hangUp_7 : decode cX1_hangUp 7 = .ok (.getfield 236, 3) := dk_180 0 236 (dk_at dksX1_hangUp_0 7 rfl rfl)
theorem dX1_hangUp_10 : decode cX1_hangUp 10 = .ok (.ifnonnull 7, 3) := dk_199 0 7 (dk_at dksX1_hangUp_0 10 rfl rfl)
theorem dX1_hangUp_13 : decode cX1_hangUp 13 = .ok (.iconst 0, 1) := dk_3 (dk_at dksX1_hangUp_0 13 rfl rfl)
theorem dX1_hangUp_14 : decode cX1_hangUp 14 = .ok (.goto 13, 3) := dk_167 0 13 (dk_at dksX1_hangUp_0 14 rfl rfl)
theorem dX1_hangUp_17 : decode cX1_hangUp 17 = .ok (.aload_n 2, 1) := dk_44 (dk_at dksX1_hangUp_0 17 rfl rfl)
theorem dX1_hangUp_18 : decode cX1_hangUp 18 = .ok (.getfield 236, 3) := dk_180 0 236 (dk_at dksX1_hangUp_0 18 rfl rfl)
theorem dX1_hangUp_21 : decode cX1_hangUp 21 = .ok (.getstatic 281, 3) := dk_178 1 25 (dk_at dksX1_hangUp_0 21 rfl rfl)
theorem dX1_hangUp_24 : decode cX1_hangUp 24 = .ok (.invokevirtual 258, 3) := dk_182 1 2 (dk_at dksX1_hangUp_1 0 rfl rfl)
theorem dX1_hangUp_27 : decode cX1_hangUp 27 = .ok (.istore_n 3, 1) := dk_62 (dk_at dksX1_hangUp_1 3 rfl rfl)
theorem dX1_hangUp_28 : decode cX1_hangUp 28 = .ok (.aload_n 2, 1) := dk_44 (dk_at dksX1_hangUp_1 4 rfl rfl)
theorem dX1_hangUp_29 : decode cX1_hangUp 29 = .ok (.invokevirtual 284, 3) := dk_182 1 28 (dk_at dksX1_hangUp_1 5 rfl rfl)
theorem dX1_hangUp_32 : decode cX1_hangUp 32 = .ok (.iload_n 3, 1) := dk_29 (dk_at dksX1_hangUp_1 8 rfl rfl)
theorem dX1_hangUp_33 : decode cX1_hangUp 33 = .ok (.ireturn, 1) := dk_172 (dk_at dksX1_hangUp_1 9 rfl rfl)
abbrev cX1_callOf : ByteArray := prog_1_method_35_code
def yX1_callOf : MethodName := ⟨RX1, "callOf", "(I)I"⟩
def dkwX1_callOf_0 : List UInt8 := [27, 3, 8, 184, 0, 139, 42, 27, 182, 0, 219, 172]
abbrev dktX1_callOf_0 : List UInt8 := dkwX1_callOf_0 ++ []
theorem dksX1_callOf_0 : cX1_callOf.data.toList.drop 0 = dktX1_callOf_0 := by decide +kernel
theorem dX1_callOf_0 : decode cX1_callOf 0 = .ok (.iload_n 1, 1) := dk_27 (dk_at dksX1_callOf_0 0 rfl rfl)
theorem dX1_callOf_1 : decode cX1_callOf 1 = .ok (.iconst 0, 1) := dk_3 (dk_at dksX1_callOf_0 1 rfl rfl)
theorem dX1_callOf_2 : decode cX1_callOf 2 = .ok (.iconst 5, 1) := dk_8 (dk_at dksX1_callOf_0 2 rfl rfl)
theorem dX1_callOf_3 : decode cX1_callOf 3 = .ok (.invokestatic 139, 3) := dk_184 0 139 (dk_at dksX1_callOf_0 3 rfl rfl)
theorem dX1_callOf_6 : decode cX1_callOf 6 = .ok (.aload_n 0, 1) := dk_42 (dk_at dksX1_callOf_0 6 rfl rfl)
theorem dX1_callOf_7 : decode cX1_callOf 7 = .ok (.iload_n 1, 1) := dk_27 (dk_at dksX1_callOf_0 7 rfl rfl)
theorem dX1_callOf_8 : decode cX1_callOf 8 = .ok (.invokevirtual 219, 3) := dk_182 0 219 (dk_at dksX1_callOf_0 8 rfl rfl)
theorem dX1_callOf_11 : decode cX1_callOf 11 = .ok (.ireturn, 1) := dk_172 (dk_at dksX1_callOf_0 11 rfl rfl)
abbrev cX1_way : ByteArray := prog_1_method_36_code
def yX1_way : MethodName := ⟨RX1, "way", "(I)I"⟩
def dkwX1_way_0 : List UInt8 := [42, 27, 182, 0, 249, 180, 1, 31, 182, 0, 146, 172]
abbrev dktX1_way_0 : List UInt8 := dkwX1_way_0 ++ []
theorem dksX1_way_0 : cX1_way.data.toList.drop 0 = dktX1_way_0 := by decide +kernel
theorem dX1_way_0 : decode cX1_way 0 = .ok (.aload_n 0, 1) := dk_42 (dk_at dksX1_way_0 0 rfl rfl)
theorem dX1_way_1 : decode cX1_way 1 = .ok (.iload_n 1, 1) := dk_27 (dk_at dksX1_way_0 1 rfl rfl)
theorem dX1_way_2 : decode cX1_way 2 = .ok (.invokevirtual 249, 3) := dk_182 0 249 (dk_at dksX1_way_0 2 rfl rfl)
theorem dX1_way_5 : decode cX1_way 5 = .ok (.getfield 287, 3) := dk_180 1 31 (dk_at dksX1_way_0 5 rfl rfl)
theorem dX1_way_8 : decode cX1_way 8 = .ok (.invokevirtual 146, 3) := dk_182 0 146 (dk_at dksX1_way_0 8 rfl rfl)
theorem dX1_way_11 : decode cX1_way 11 = .ok (.ireturn, 1) := dk_172 (dk_at dksX1_way_0 11 rfl rfl)
abbrev cX1_cut : ByteArray := prog_1_method_38_code
def yX1_cut : MethodName := ⟨RX1, "cut", "(III)I"⟩
def dkwX1_cut_3 : List UInt8 := [180, 0, 236, 42, 180, 1, 45, 16, 10, 96, 181, 1, 48, 25, 5, 182, 1, 28, 25, 5, 180, 0, 218, 172]
abbrev dktX1_cut_3 : List UInt8 := dkwX1_cut_3 ++ []
def dkwX1_cut_2 : List UInt8 := [25, 5, 180, 0, 236, 198, 0, 31, 25, 5, 180, 0, 236, 178, 1, 15, 182, 1, 2, 54, 6, 25, 5]
abbrev dktX1_cut_2 : List UInt8 := dkwX1_cut_2 ++ dktX1_cut_3
def dkwX1_cut_1 : List UInt8 := [184, 0, 154, 25, 4, 4, 181, 1, 38, 25, 4, 180, 1, 41, 58, 5, 25, 5, 199, 0, 5, 2, 172]
abbrev dktX1_cut_1 : List UInt8 := dkwX1_cut_1 ++ dktX1_cut_2
def dkwX1_cut_0 : List UInt8 := [42, 27, 28, 29, 182, 1, 34, 58, 4, 25, 4, 180, 1, 38, 154, 0, 7, 4, 167, 0, 4, 3]
abbrev dktX1_cut_0 : List UInt8 := dkwX1_cut_0 ++ dktX1_cut_1
theorem dksX1_cut_0 : cX1_cut.data.toList.drop 0 = dktX1_cut_0 := by decide +kernel
theorem dksX1_cut_1 : cX1_cut.data.toList.drop 22 = dktX1_cut_1 := dk_seg dksX1_cut_0 22 rfl rfl
theorem dksX1_cut_2 : cX1_cut.data.toList.drop 45 = dktX1_cut_2 := dk_seg dksX1_cut_1 23 rfl rfl
theorem dksX1_cut_3 : cX1_cut.data.toList.drop 68 = dktX1_cut_3 := dk_seg dksX1_cut_2 23 rfl rfl
theorem dX1_cut_0 : decode cX1_cut 0 = .ok (.aload_n 0, 1) := dk_42 (dk_at dksX1_cut_0 0 rfl rfl)
theorem dX1_cut_1 : decode cX1_cut 1 = .ok (.iload_n 1, 1) := dk_27 (dk_at dksX1_cut_0 1 rfl rfl)
theorem dX1_cut_2 : decode cX1_cut 2 = .ok (.iload_n 2, 1) := dk_28 (dk_at dksX1_cut_0 2 rfl rfl)
theorem dX1_cut_3 : decode cX1_cut 3 = .ok (.iload_n 3, 1) := dk_29 (dk_at dksX1_cut_0 3 rfl rfl)
theorem dX1_cut_4 : decode cX1_cut 4 = .ok (.invokevirtual 290, 3) := dk_182 1 34 (dk_at dksX1_cut_0 4 rfl rfl)
theorem dX1_cut_7 : decode cX1_cut 7 = .ok (.astore 4, 2) := dk_58 4 (dk_at dksX1_cut_0 7 rfl rfl)
theorem dX1_cut_9 : decode cX1_cut 9 = .ok (.aload 4, 2) := dk_25 4 (dk_at dksX1_cut_0 9 rfl rfl)
theorem dX1_cut_11 : decode cX1_cut 11 = .ok (.getfield 294, 3) := dk_180 1 38 (dk_at dksX1_cut_0 11 rfl rfl)
theorem dX1_cut_14 : decode cX1_cut 14 = .ok (.ifCond .ne 7, 3) := dk_154 0 7 (dk_at dksX1_cut_0 14 rfl rfl)
theorem dX1_cut_17 : decode cX1_cut 17 = .ok (.iconst 1, 1) := dk_4 (dk_at dksX1_cut_0 17 rfl rfl)
theorem dX1_cut_18 : decode cX1_cut 18 = .ok (.goto 4, 3) := dk_167 0 4 (dk_at dksX1_cut_0 18 rfl rfl)
theorem dX1_cut_21 : decode cX1_cut 21 = .ok (.iconst 0, 1) := dk_3 (dk_at dksX1_cut_0 21 rfl rfl)
theorem dX1_cut_22 : decode cX1_cut 22 = .ok (.invokestatic 154, 3) := dk_184 0 154 (dk_at dksX1_cut_1 0 rfl rfl)
theorem dX1_cut_25 : decode cX1_cut 25 = .ok (.aload 4, 2) := dk_25 4 (dk_at dksX1_cut_1 3 rfl rfl)
theorem dX1_cut_27 : decode cX1_cut 27 = .ok (.iconst 1, 1) := dk_4 (dk_at dksX1_cut_1 5 rfl rfl)
theorem dX1_cut_28 : decode cX1_cut 28 = .ok (.putfield 294, 3) := dk_181 1 38 (dk_at dksX1_cut_1 6 rfl rfl)
theorem dX1_cut_31 : decode cX1_cut 31 = .ok (.aload 4, 2) := dk_25 4 (dk_at dksX1_cut_1 9 rfl rfl)
theorem dX1_cut_33 : decode cX1_cut 33 = .ok (.getfield 297, 3) := dk_180 1 41 (dk_at dksX1_cut_1 11 rfl rfl)
theorem dX1_cut_36 : decode cX1_cut 36 = .ok (.astore 5, 2) := dk_58 5 (dk_at dksX1_cut_1 14 rfl rfl)
theorem dX1_cut_38 : decode cX1_cut 38 = .ok (.aload 5, 2) := dk_25 5 (dk_at dksX1_cut_1 16 rfl rfl)
theorem dX1_cut_40 : decode cX1_cut 40 = .ok (.ifnonnull 5, 3) := dk_199 0 5 (dk_at dksX1_cut_1 18 rfl rfl)
theorem dX1_cut_43 : decode cX1_cut 43 = .ok (.iconst (-1), 1) := dk_2 (dk_at dksX1_cut_1 21 rfl rfl)
theorem dX1_cut_44 : decode cX1_cut 44 = .ok (.ireturn, 1) := dk_172 (dk_at dksX1_cut_1 22 rfl rfl)
theorem dX1_cut_45 : decode cX1_cut 45 = .ok (.aload 5, 2) := dk_25 5 (dk_at dksX1_cut_2 0 rfl rfl)
theorem dX1_cut_47 : decode cX1_cut 47 = .ok (.getfield 236, 3) := dk_180 0 236 (dk_at dksX1_cut_2 2 rfl rfl)
theorem dX1_cut_50 : decode cX1_cut 50 = .ok (.ifnull 31, 3) := dk_198 0 31 (dk_at dksX1_cut_2 5 rfl rfl)
theorem dX1_cut_53 : decode cX1_cut 53 = .ok (.aload 5, 2) := dk_25 5 (dk_at dksX1_cut_2 8 rfl rfl)
theorem dX1_cut_55 : decode cX1_cut 55 = .ok (.getfield 236, 3) := dk_180 0 236 (dk_at dksX1_cut_2 10 rfl rfl)
theorem dX1_cut_58 : decode cX1_cut 58 = .ok (.getstatic 271, 3) := dk_178 1 15 (dk_at dksX1_cut_2 13 rfl rfl)
theorem dX1_cut_61 : decode cX1_cut 61 = .ok (.invokevirtual 258, 3) := dk_182 1 2 (dk_at dksX1_cut_2 16 rfl rfl)
theorem dX1_cut_64 : decode cX1_cut 64 = .ok (.istore 6, 2) := dk_54 6 (dk_at dksX1_cut_2 19 rfl rfl)
theorem dX1_cut_66 : decode cX1_cut 66 = .ok (.aload 5, 2) := dk_25 5 (dk_at dksX1_cut_2 21 rfl rfl)
theorem dX1_cut_68 : decode cX1_cut 68 = .ok (.getfield 236, 3) := dk_180 0 236 (dk_at dksX1_cut_3 0 rfl rfl)
theorem dX1_cut_71 : decode cX1_cut 71 = .ok (.aload_n 0, 1) := dk_42 (dk_at dksX1_cut_3 3 rfl rfl)
theorem dX1_cut_72 : decode cX1_cut 72 = .ok (.getfield 301, 3) := dk_180 1 45 (dk_at dksX1_cut_3 4 rfl rfl)
theorem dX1_cut_75 : decode cX1_cut 75 = .ok (.bipush 10, 2) := dk_16 10 (dk_at dksX1_cut_3 7 rfl rfl)
theorem dX1_cut_77 : decode cX1_cut 77 = .ok (.iadd, 1) := dk_96 (dk_at dksX1_cut_3 9 rfl rfl)
theorem dX1_cut_78 : decode cX1_cut 78 = .ok (.putfield 304, 3) := dk_181 1 48 (dk_at dksX1_cut_3 10 rfl rfl)
theorem dX1_cut_81 : decode cX1_cut 81 = .ok (.aload 5, 2) := dk_25 5 (dk_at dksX1_cut_3 13 rfl rfl)
theorem dX1_cut_83 : decode cX1_cut 83 = .ok (.invokevirtual 284, 3) := dk_182 1 28 (dk_at dksX1_cut_3 15 rfl rfl)
theorem dX1_cut_86 : decode cX1_cut 86 = .ok (.aload 5, 2) := dk_25 5 (dk_at dksX1_cut_3 18 rfl rfl)
theorem dX1_cut_88 : decode cX1_cut 88 = .ok (.getfield 218, 3) := dk_180 0 218 (dk_at dksX1_cut_3 20 rfl rfl)
theorem dX1_cut_91 : decode cX1_cut 91 = .ok (.ireturn, 1) := dk_172 (dk_at dksX1_cut_3 23 rfl rfl)
abbrev cX1_trunkOf : ByteArray := prog_1_method_12_code
def yX1_trunkOf : MethodName := ⟨RX1, "trunkOf", "(III)LTrunkYards$Trunk;"⟩
def dkwX1_trunkOf_1 : List UInt8 := [183, 0, 56, 182, 0, 97, 192, 0, 66, 29, 50, 176]
abbrev dktX1_trunkOf_1 : List UInt8 := dkwX1_trunkOf_1 ++ []
def dkwX1_trunkOf_0 : List UInt8 := [27, 28, 6, 184, 0, 143, 29, 3, 4, 184, 0, 139, 42, 180, 0, 27, 187, 0, 54, 89, 27, 28]
abbrev dktX1_trunkOf_0 : List UInt8 := dkwX1_trunkOf_0 ++ dktX1_trunkOf_1
theorem dksX1_trunkOf_0 : cX1_trunkOf.data.toList.drop 0 = dktX1_trunkOf_0 := by decide +kernel
theorem dksX1_trunkOf_1 : cX1_trunkOf.data.toList.drop 22 = dktX1_trunkOf_1 := dk_seg dksX1_trunkOf_0 22 rfl rfl
theorem dX1_trunkOf_0 : decode cX1_trunkOf 0 = .ok (.iload_n 1, 1) := dk_27 (dk_at dksX1_trunkOf_0 0 rfl rfl)
theorem dX1_trunkOf_1 : decode cX1_trunkOf 1 = .ok (.iload_n 2, 1) := dk_28 (dk_at dksX1_trunkOf_0 1 rfl rfl)
theorem dX1_trunkOf_2 : decode cX1_trunkOf 2 = .ok (.iconst 3, 1) := dk_6 (dk_at dksX1_trunkOf_0 2 rfl rfl)
theorem dX1_trunkOf_3 : decode cX1_trunkOf 3 = .ok (.invokestatic 143, 3) := dk_184 0 143 (dk_at dksX1_trunkOf_0 3 rfl rfl)
theorem dX1_trunkOf_6 : decode cX1_trunkOf 6 = .ok (.iload_n 3, 1) := dk_29 (dk_at dksX1_trunkOf_0 6 rfl rfl)
theorem dX1_trunkOf_7 : decode cX1_trunkOf 7 = .ok (.iconst 0, 1) := dk_3 (dk_at dksX1_trunkOf_0 7 rfl rfl)
theorem dX1_trunkOf_8 : decode cX1_trunkOf 8 = .ok (.iconst 1, 1) := dk_4 (dk_at dksX1_trunkOf_0 8 rfl rfl)
theorem dX1_trunkOf_9 : decode cX1_trunkOf 9 = .ok (.invokestatic 139, 3) := dk_184 0 139 (dk_at dksX1_trunkOf_0 9 rfl rfl)
theorem dX1_trunkOf_12 : decode cX1_trunkOf 12 = .ok (.aload_n 0, 1) := dk_42 (dk_at dksX1_trunkOf_0 12 rfl rfl)
theorem dX1_trunkOf_13 : decode cX1_trunkOf 13 = .ok (.getfield 27, 3) := dk_180 0 27 (dk_at dksX1_trunkOf_0 13 rfl rfl)
theorem dX1_trunkOf_16 : decode cX1_trunkOf 16 = .ok (.new 54, 3) := dk_187 0 54 (dk_at dksX1_trunkOf_0 16 rfl rfl)
theorem dX1_trunkOf_19 : decode cX1_trunkOf 19 = .ok (.dup, 1) := dk_89 (dk_at dksX1_trunkOf_0 19 rfl rfl)
theorem dX1_trunkOf_20 : decode cX1_trunkOf 20 = .ok (.iload_n 1, 1) := dk_27 (dk_at dksX1_trunkOf_0 20 rfl rfl)
theorem dX1_trunkOf_21 : decode cX1_trunkOf 21 = .ok (.iload_n 2, 1) := dk_28 (dk_at dksX1_trunkOf_0 21 rfl rfl)
theorem dX1_trunkOf_22 : decode cX1_trunkOf 22 = .ok (.invokespecial 56, 3) := dk_183 0 56 (dk_at dksX1_trunkOf_1 0 rfl rfl)
theorem dX1_trunkOf_25 : decode cX1_trunkOf 25 = .ok (.invokevirtual 97, 3) := dk_182 0 97 (dk_at dksX1_trunkOf_1 3 rfl rfl)
theorem dX1_trunkOf_28 : decode cX1_trunkOf 28 = .ok (.checkcast 66, 3) := dk_192 0 66 (dk_at dksX1_trunkOf_1 6 rfl rfl)
theorem dX1_trunkOf_31 : decode cX1_trunkOf 31 = .ok (.iload_n 3, 1) := dk_29 (dk_at dksX1_trunkOf_1 9 rfl rfl)
theorem dX1_trunkOf_32 : decode cX1_trunkOf 32 = .ok (.aaload, 1) := dk_50 (dk_at dksX1_trunkOf_1 10 rfl rfl)
theorem dX1_trunkOf_33 : decode cX1_trunkOf 33 = .ok (.areturn, 1) := dk_176 (dk_at dksX1_trunkOf_1 11 rfl rfl)
abbrev cX1_mend : ByteArray := prog_1_method_39_code
def yX1_mend : MethodName := ⟨RX1, "mend", "(III)V"⟩
def dkwX1_mend_0 : List UInt8 := [42, 27, 28, 29, 182, 1, 34, 58, 4, 25, 4, 180, 1, 38, 184, 0, 154, 25, 4, 3, 181, 1, 38, 177]
abbrev dktX1_mend_0 : List UInt8 := dkwX1_mend_0 ++ []
theorem dksX1_mend_0 : cX1_mend.data.toList.drop 0 = dktX1_mend_0 := by decide +kernel
theorem dX1_mend_0 : decode cX1_mend 0 = .ok (.aload_n 0, 1) := dk_42 (dk_at dksX1_mend_0 0 rfl rfl)
theorem dX1_mend_1 : decode cX1_mend 1 = .ok (.iload_n 1, 1) := dk_27 (dk_at dksX1_mend_0 1 rfl rfl)
theorem dX1_mend_2 : decode cX1_mend 2 = .ok (.iload_n 2, 1) := dk_28 (dk_at dksX1_mend_0 2 rfl rfl)
theorem dX1_mend_3 : decode cX1_mend 3 = .ok (.iload_n 3, 1) := dk_29 (dk_at dksX1_mend_0 3 rfl rfl)
theorem dX1_mend_4 : decode cX1_mend 4 = .ok (.invokevirtual 290, 3) := dk_182 1 34 (dk_at dksX1_mend_0 4 rfl rfl)
theorem dX1_mend_7 : decode cX1_mend 7 = .ok (.astore 4, 2) := dk_58 4 (dk_at dksX1_mend_0 7 rfl rfl)
theorem dX1_mend_9 : decode cX1_mend 9 = .ok (.aload 4, 2) := dk_25 4 (dk_at dksX1_mend_0 9 rfl rfl)
theorem dX1_mend_11 : decode cX1_mend 11 = .ok (.getfield 294, 3) := dk_180 1 38 (dk_at dksX1_mend_0 11 rfl rfl)
theorem dX1_mend_14 : decode cX1_mend 14 = .ok (.invokestatic 154, 3) := dk_184 0 154 (dk_at dksX1_mend_0 14 rfl rfl)
theorem dX1_mend_17 : decode cX1_mend 17 = .ok (.aload 4, 2) := dk_25 4 (dk_at dksX1_mend_0 17 rfl rfl)
theorem dX1_mend_19 : decode cX1_mend 19 = .ok (.iconst 0, 1) := dk_3 (dk_at dksX1_mend_0 19 rfl rfl)
theorem dX1_mend_20 : decode cX1_mend 20 = .ok (.putfield 294, 3) := dk_181 1 38 (dk_at dksX1_mend_0 20 rfl rfl)
theorem dX1_mend_23 : decode cX1_mend 23 = .ok (.return_, 1) := dk_177 (dk_at dksX1_mend_0 23 rfl rfl)
abbrev cX1_trunk : ByteArray := prog_1_method_40_code
def yX1_trunk : MethodName := ⟨RX1, "trunk", "(III)I"⟩
def dkwX1_trunk_1 : List UInt8 := [180, 1, 41, 199, 0, 7, 2, 167, 0, 11, 25, 4, 180, 1, 41, 180, 0, 218, 172]
abbrev dktX1_trunk_1 : List UInt8 := dkwX1_trunk_1 ++ []
def dkwX1_trunk_0 : List UInt8 := [42, 27, 28, 29, 182, 1, 34, 58, 4, 25, 4, 180, 1, 38, 153, 0, 8, 16, 254, 167, 0, 23, 25, 4]
abbrev dktX1_trunk_0 : List UInt8 := dkwX1_trunk_0 ++ dktX1_trunk_1
theorem dksX1_trunk_0 : cX1_trunk.data.toList.drop 0 = dktX1_trunk_0 := by decide +kernel
theorem dksX1_trunk_1 : cX1_trunk.data.toList.drop 24 = dktX1_trunk_1 := dk_seg dksX1_trunk_0 24 rfl rfl
theorem dX1_trunk_0 : decode cX1_trunk 0 = .ok (.aload_n 0, 1) := dk_42 (dk_at dksX1_trunk_0 0 rfl rfl)
theorem dX1_trunk_1 : decode cX1_trunk 1 = .ok (.iload_n 1, 1) := dk_27 (dk_at dksX1_trunk_0 1 rfl rfl)
theorem dX1_trunk_2 : decode cX1_trunk 2 = .ok (.iload_n 2, 1) := dk_28 (dk_at dksX1_trunk_0 2 rfl rfl)
theorem dX1_trunk_3 : decode cX1_trunk 3 = .ok (.iload_n 3, 1) := dk_29 (dk_at dksX1_trunk_0 3 rfl rfl)
theorem dX1_trunk_4 : decode cX1_trunk 4 = .ok (.invokevirtual 290, 3) := dk_182 1 34 (dk_at dksX1_trunk_0 4 rfl rfl)
theorem dX1_trunk_7 : decode cX1_trunk 7 = .ok (.astore 4, 2) := dk_58 4 (dk_at dksX1_trunk_0 7 rfl rfl)
theorem dX1_trunk_9 : decode cX1_trunk 9 = .ok (.aload 4, 2) := dk_25 4 (dk_at dksX1_trunk_0 9 rfl rfl)
theorem dX1_trunk_11 : decode cX1_trunk 11 = .ok (.getfield 294, 3) := dk_180 1 38 (dk_at dksX1_trunk_0 11 rfl rfl)
theorem dX1_trunk_14 : decode cX1_trunk 14 = .ok (.ifCond .eq 8, 3) := dk_153 0 8 (dk_at dksX1_trunk_0 14 rfl rfl)
theorem dX1_trunk_17 : decode cX1_trunk 17 = .ok (.bipush (-2), 2) := dk_16 254 (dk_at dksX1_trunk_0 17 rfl rfl)
theorem dX1_trunk_19 : decode cX1_trunk 19 = .ok (.goto 23, 3) := dk_167 0 23 (dk_at dksX1_trunk_0 19 rfl rfl)
theorem dX1_trunk_22 : decode cX1_trunk 22 = .ok (.aload 4, 2) := dk_25 4 (dk_at dksX1_trunk_0 22 rfl rfl)
theorem dX1_trunk_24 : decode cX1_trunk 24 = .ok (.getfield 297, 3) := dk_180 1 41 (dk_at dksX1_trunk_1 0 rfl rfl)
theorem dX1_trunk_27 : decode cX1_trunk 27 = .ok (.ifnonnull 7, 3) := dk_199 0 7 (dk_at dksX1_trunk_1 3 rfl rfl)
theorem dX1_trunk_30 : decode cX1_trunk 30 = .ok (.iconst (-1), 1) := dk_2 (dk_at dksX1_trunk_1 6 rfl rfl)
theorem dX1_trunk_31 : decode cX1_trunk 31 = .ok (.goto 11, 3) := dk_167 0 11 (dk_at dksX1_trunk_1 7 rfl rfl)
theorem dX1_trunk_34 : decode cX1_trunk 34 = .ok (.aload 4, 2) := dk_25 4 (dk_at dksX1_trunk_1 10 rfl rfl)
theorem dX1_trunk_36 : decode cX1_trunk 36 = .ok (.getfield 297, 3) := dk_180 1 41 (dk_at dksX1_trunk_1 12 rfl rfl)
theorem dX1_trunk_39 : decode cX1_trunk 39 = .ok (.getfield 218, 3) := dk_180 0 218 (dk_at dksX1_trunk_1 15 rfl rfl)
theorem dX1_trunk_42 : decode cX1_trunk 42 = .ok (.ireturn, 1) := dk_172 (dk_at dksX1_trunk_1 18 rfl rfl)
abbrev cX1_setLines : ByteArray := prog_1_method_41_code
def yX1_setLines : MethodName := ⟨RX1, "setLines", "(II)I"⟩
def dkwX1_setLines_1 : List UInt8 := [167, 0, 4, 3, 184, 0, 154, 42, 180, 0, 31, 27, 46, 62, 42, 180, 0, 31, 27, 28, 79, 29, 172]
abbrev dktX1_setLines_1 : List UInt8 := dkwX1_setLines_1 ++ []
def dkwX1_setLines_0 : List UInt8 := [27, 3, 5, 184, 0, 139, 28, 3, 6, 184, 0, 139, 42, 27, 182, 0, 223, 28, 163, 0, 7, 4]
abbrev dktX1_setLines_0 : List UInt8 := dkwX1_setLines_0 ++ dktX1_setLines_1
theorem dksX1_setLines_0 : cX1_setLines.data.toList.drop 0 = dktX1_setLines_0 := by decide +kernel
theorem dksX1_setLines_1 : cX1_setLines.data.toList.drop 22 = dktX1_setLines_1 := dk_seg dksX1_setLines_0 22 rfl rfl
theorem dX1_setLines_0 : decode cX1_setLines 0 = .ok (.iload_n 1, 1) := dk_27 (dk_at dksX1_setLines_0 0 rfl rfl)
theorem dX1_setLines_1 : decode cX1_setLines 1 = .ok (.iconst 0, 1) := dk_3 (dk_at dksX1_setLines_0 1 rfl rfl)
theorem dX1_setLines_2 : decode cX1_setLines 2 = .ok (.iconst 2, 1) := dk_5 (dk_at dksX1_setLines_0 2 rfl rfl)
theorem dX1_setLines_3 : decode cX1_setLines 3 = .ok (.invokestatic 139, 3) := dk_184 0 139 (dk_at dksX1_setLines_0 3 rfl rfl)
theorem dX1_setLines_6 : decode cX1_setLines 6 = .ok (.iload_n 2, 1) := dk_28 (dk_at dksX1_setLines_0 6 rfl rfl)
theorem dX1_setLines_7 : decode cX1_setLines 7 = .ok (.iconst 0, 1) := dk_3 (dk_at dksX1_setLines_0 7 rfl rfl)
theorem dX1_setLines_8 : decode cX1_setLines 8 = .ok (.iconst 3, 1) := dk_6 (dk_at dksX1_setLines_0 8 rfl rfl)
theorem dX1_setLines_9 : decode cX1_setLines 9 = .ok (.invokestatic 139, 3) := dk_184 0 139 (dk_at dksX1_setLines_0 9 rfl rfl)
theorem dX1_setLines_12 : decode cX1_setLines 12 = .ok (.aload_n 0, 1) := dk_42 (dk_at dksX1_setLines_0 12 rfl rfl)
theorem dX1_setLines_13 : decode cX1_setLines 13 = .ok (.iload_n 1, 1) := dk_27 (dk_at dksX1_setLines_0 13 rfl rfl)
theorem dX1_setLines_14 : decode cX1_setLines 14 = .ok (.invokevirtual 223, 3) := dk_182 0 223 (dk_at dksX1_setLines_0 14 rfl rfl)
theorem dX1_setLines_17 : decode cX1_setLines 17 = .ok (.iload_n 2, 1) := dk_28 (dk_at dksX1_setLines_0 17 rfl rfl)
theorem dX1_setLines_18 : decode cX1_setLines 18 = .ok (.if_icmp .gt 7, 3) := dk_163 0 7 (dk_at dksX1_setLines_0 18 rfl rfl)
theorem dX1_setLines_21 : decode cX1_setLines 21 = .ok (.iconst 1, 1) := dk_4 (dk_at dksX1_setLines_0 21 rfl rfl)
theorem dX1_setLines_22 : decode cX1_setLines 22 = .ok (.goto 4, 3) := dk_167 0 4 (dk_at dksX1_setLines_1 0 rfl rfl)
theorem dX1_setLines_25 : decode cX1_setLines 25 = .ok (.iconst 0, 1) := dk_3 (dk_at dksX1_setLines_1 3 rfl rfl)
theorem dX1_setLines_26 : decode cX1_setLines 26 = .ok (.invokestatic 154, 3) := dk_184 0 154 (dk_at dksX1_setLines_1 4 rfl rfl)
theorem dX1_setLines_29 : decode cX1_setLines 29 = .ok (.aload_n 0, 1) := dk_42 (dk_at dksX1_setLines_1 7 rfl rfl)
theorem dX1_setLines_30 : decode cX1_setLines 30 = .ok (.getfield 31, 3) := dk_180 0 31 (dk_at dksX1_setLines_1 8 rfl rfl)
theorem dX1_setLines_33 : decode cX1_setLines 33 = .ok (.iload_n 1, 1) := dk_27 (dk_at dksX1_setLines_1 11 rfl rfl)
theorem dX1_setLines_34 : decode cX1_setLines 34 = .ok (.iaload, 1) := dk_46 (dk_at dksX1_setLines_1 12 rfl rfl)
theorem dX1_setLines_35 : decode cX1_setLines 35 = .ok (.istore_n 3, 1) := dk_62 (dk_at dksX1_setLines_1 13 rfl rfl)
theorem dX1_setLines_36 : decode cX1_setLines 36 = .ok (.aload_n 0, 1) := dk_42 (dk_at dksX1_setLines_1 14 rfl rfl)
theorem dX1_setLines_37 : decode cX1_setLines 37 = .ok (.getfield 31, 3) := dk_180 0 31 (dk_at dksX1_setLines_1 15 rfl rfl)
theorem dX1_setLines_40 : decode cX1_setLines 40 = .ok (.iload_n 1, 1) := dk_27 (dk_at dksX1_setLines_1 18 rfl rfl)
theorem dX1_setLines_41 : decode cX1_setLines 41 = .ok (.iload_n 2, 1) := dk_28 (dk_at dksX1_setLines_1 19 rfl rfl)
theorem dX1_setLines_42 : decode cX1_setLines 42 = .ok (.iastore, 1) := dk_79 (dk_at dksX1_setLines_1 20 rfl rfl)
theorem dX1_setLines_43 : decode cX1_setLines 43 = .ok (.iload_n 3, 1) := dk_29 (dk_at dksX1_setLines_1 21 rfl rfl)
theorem dX1_setLines_44 : decode cX1_setLines 44 = .ok (.ireturn, 1) := dk_172 (dk_at dksX1_setLines_1 22 rfl rfl)
abbrev cX1_pass : ByteArray := prog_1_method_42_code
def yX1_pass : MethodName := ⟨RX1, "pass", "(I)I"⟩
def dkwX1_pass_4 : List UInt8 := [182, 1, 2, 54, 5, 132, 2, 1, 167, 255, 200, 28, 172]
abbrev dktX1_pass_4 : List UInt8 := dkwX1_pass_4 ++ []
def dkwX1_pass_3 : List UInt8 := [178, 1, 15, 166, 0, 28, 25, 4, 180, 1, 48, 42, 180, 1, 45, 163, 0, 16, 25, 4, 178, 1, 25]
abbrev dktX1_pass_3 : List UInt8 := dkwX1_pass_3 ++ dktX1_pass_4
def dkwX1_pass_2 : List UInt8 := [185, 0, 112, 1, 0, 153, 0, 53, 45, 185, 0, 117, 1, 0, 192, 0, 158, 58, 4, 25, 4, 180, 1, 12]
abbrev dktX1_pass_2 : List UInt8 := dkwX1_pass_2 ++ dktX1_pass_3
def dkwX1_pass_1 : List UInt8 := [184, 0, 154, 42, 89, 180, 1, 45, 27, 96, 181, 1, 45, 3, 61, 42, 180, 0, 38, 182, 0, 108, 78, 45]
abbrev dktX1_pass_1 : List UInt8 := dkwX1_pass_1 ++ dktX1_pass_2
def dkwX1_pass_0 : List UInt8 := [27, 4, 16, 100, 184, 0, 139, 42, 180, 1, 45, 27, 96, 17, 39, 16, 163, 0, 7, 4, 167, 0, 4, 3]
abbrev dktX1_pass_0 : List UInt8 := dkwX1_pass_0 ++ dktX1_pass_1
theorem dksX1_pass_0 : cX1_pass.data.toList.drop 0 = dktX1_pass_0 := by decide +kernel
theorem dksX1_pass_1 : cX1_pass.data.toList.drop 24 = dktX1_pass_1 := dk_seg dksX1_pass_0 24 rfl rfl
theorem dksX1_pass_2 : cX1_pass.data.toList.drop 48 = dktX1_pass_2 := dk_seg dksX1_pass_1 24 rfl rfl
theorem dksX1_pass_3 : cX1_pass.data.toList.drop 72 = dktX1_pass_3 := dk_seg dksX1_pass_2 24 rfl rfl
theorem dksX1_pass_4 : cX1_pass.data.toList.drop 95 = dktX1_pass_4 := dk_seg dksX1_pass_3 23 rfl rfl
theorem dX1_pass_0 : decode cX1_pass 0 = .ok (.iload_n 1, 1) := dk_27 (dk_at dksX1_pass_0 0 rfl rfl)
theorem dX1_pass_1 : decode cX1_pass 1 = .ok (.iconst 1, 1) := dk_4 (dk_at dksX1_pass_0 1 rfl rfl)
theorem dX1_pass_2 : decode cX1_pass 2 = .ok (.bipush 100, 2) := dk_16 100 (dk_at dksX1_pass_0 2 rfl rfl)
theorem dX1_pass_4 : decode cX1_pass 4 = .ok (.invokestatic 139, 3) := dk_184 0 139 (dk_at dksX1_pass_0 4 rfl rfl)
theorem dX1_pass_7 : decode cX1_pass 7 = .ok (.aload_n 0, 1) := dk_42 (dk_at dksX1_pass_0 7 rfl rfl)
theorem dX1_pass_8 : decode cX1_pass 8 = .ok (.getfield 301, 3) := dk_180 1 45 (dk_at dksX1_pass_0 8 rfl rfl)
theorem dX1_pass_11 : decode cX1_pass 11 = .ok (.iload_n 1, 1) := dk_27 (dk_at dksX1_pass_0 11 rfl rfl)
theorem dX1_pass_12 : decode cX1_pass 12 = .ok (.iadd, 1) := dk_96 (dk_at dksX1_pass_0 12 rfl rfl)
theorem dX1_pass_13 : decode cX1_pass 13 = .ok (.sipush 10000, 3) := dk_17 39 16 (dk_at dksX1_pass_0 13 rfl rfl)
theorem dX1_pass_16 : decode cX1_pass 16 = .ok (.if_icmp .gt 7, 3) := dk_163 0 7 (dk_at dksX1_pass_0 16 rfl rfl)
theorem dX1_pass_19 : decode cX1_pass 19 = .ok (.iconst 1, 1) := dk_4 (dk_at dksX1_pass_0 19 rfl rfl)
theorem dX1_pass_20 : decode cX1_pass 20 = .ok (.goto 4, 3) := dk_167 0 4 (dk_at dksX1_pass_0 20 rfl rfl)
theorem dX1_pass_23 : decode cX1_pass 23 = .ok (.iconst 0, 1) := dk_3 (dk_at dksX1_pass_0 23 rfl rfl)
theorem dX1_pass_24 : decode cX1_pass 24 = .ok (.invokestatic 154, 3) := dk_184 0 154 (dk_at dksX1_pass_1 0 rfl rfl)
theorem dX1_pass_27 : decode cX1_pass 27 = .ok (.aload_n 0, 1) := dk_42 (dk_at dksX1_pass_1 3 rfl rfl)
theorem dX1_pass_28 : decode cX1_pass 28 = .ok (.dup, 1) := dk_89 (dk_at dksX1_pass_1 4 rfl rfl)
theorem dX1_pass_29 : decode cX1_pass 29 = .ok (.getfield 301, 3) := dk_180 1 45 (dk_at dksX1_pass_1 5 rfl rfl)
theorem dX1_pass_32 : decode cX1_pass 32 = .ok (.iload_n 1, 1) := dk_27 (dk_at dksX1_pass_1 8 rfl rfl)
theorem dX1_pass_33 : decode cX1_pass 33 = .ok (.iadd, 1) := dk_96 (dk_at dksX1_pass_1 9 rfl rfl)
theorem dX1_pass_34 : decode cX1_pass 34 = .ok (.putfield 301, 3) := dk_181 1 45 (dk_at dksX1_pass_1 10 rfl rfl)
theorem dX1_pass_37 : decode cX1_pass 37 = .ok (.iconst 0, 1) := dk_3 (dk_at dksX1_pass_1 13 rfl rfl)
theorem dX1_pass_38 : decode cX1_pass 38 = .ok (.istore_n 2, 1) := dk_61 (dk_at dksX1_pass_1 14 rfl rfl)
theorem dX1_pass_39 : decode cX1_pass 39 = .ok (.aload_n 0, 1) := dk_42 (dk_at dksX1_pass_1 15 rfl rfl)
theorem dX1_pass_40 : decode cX1_pass 40 = .ok (.getfield 38, 3) := dk_180 0 38 (dk_at dksX1_pass_1 16 rfl rfl)
theorem dX1_pass_43 : decode cX1_pass 43 = .ok (.invokevirtual 108, 3) := dk_182 0 108 (dk_at dksX1_pass_1 19 rfl rfl)
theorem dX1_pass_46 : decode cX1_pass 46 = .ok (.astore_n 3, 1) := dk_78 (dk_at dksX1_pass_1 22 rfl rfl)
theorem dX1_pass_47 : decode cX1_pass 47 = .ok (.aload_n 3, 1) := dk_45 (dk_at dksX1_pass_1 23 rfl rfl)
theorem dX1_pass_48 : decode cX1_pass 48 = .ok (.invokeinterface 112 1, 5) := by decide +kernel
theorem dX1_pass_53 : decode cX1_pass 53 = .ok (.ifCond .eq 53, 3) := dk_153 0 53 (dk_at dksX1_pass_2 5 rfl rfl)
theorem dX1_pass_56 : decode cX1_pass 56 = .ok (.aload_n 3, 1) := dk_45 (dk_at dksX1_pass_2 8 rfl rfl)
theorem dX1_pass_57 : decode cX1_pass 57 = .ok (.invokeinterface 117 1, 5) := by decide +kernel
theorem dX1_pass_62 : decode cX1_pass 62 = .ok (.checkcast 158, 3) := dk_192 0 158 (dk_at dksX1_pass_2 14 rfl rfl)
theorem dX1_pass_65 : decode cX1_pass 65 = .ok (.astore 4, 2) := dk_58 4 (dk_at dksX1_pass_2 17 rfl rfl)
theorem dX1_pass_67 : decode cX1_pass 67 = .ok (.aload 4, 2) := dk_25 4 (dk_at dksX1_pass_2 19 rfl rfl)
theorem dX1_pass_69 : decode cX1_pass 69 = .ok (.getfield 268, 3) := dk_180 1 12 (dk_at dksX1_pass_2 21 rfl rfl)
theorem dX1_pass_72 : decode cX1_pass 72 = .ok (.getstatic 271, 3) := dk_178 1 15 (dk_at dksX1_pass_3 0 rfl rfl)
theorem dX1_pass_75 : decode cX1_pass 75 = .ok (.if_acmp .ne 28, 3) := dk_166 0 28 (dk_at dksX1_pass_3 3 rfl rfl)
theorem dX1_pass_78 : decode cX1_pass 78 = .ok (.aload 4, 2) := dk_25 4 (dk_at dksX1_pass_3 6 rfl rfl)
theorem dX1_pass_80 : decode cX1_pass 80 = .ok (.getfield 304, 3) := dk_180 1 48 (dk_at dksX1_pass_3 8 rfl rfl)
theorem dX1_pass_83 : decode cX1_pass 83 = .ok (.aload_n 0, 1) := dk_42 (dk_at dksX1_pass_3 11 rfl rfl)
theorem dX1_pass_84 : decode cX1_pass 84 = .ok (.getfield 301, 3) := dk_180 1 45 (dk_at dksX1_pass_3 12 rfl rfl)
theorem dX1_pass_87 : decode cX1_pass 87 = .ok (.if_icmp .gt 16, 3) := dk_163 0 16 (dk_at dksX1_pass_3 15 rfl rfl)
theorem dX1_pass_90 : decode cX1_pass 90 = .ok (.aload 4, 2) := dk_25 4 (dk_at dksX1_pass_3 18 rfl rfl)
theorem dX1_pass_92 : decode cX1_pass 92 = .ok (.getstatic 281, 3) := dk_178 1 25 (dk_at dksX1_pass_3 20 rfl rfl)
theorem dX1_pass_95 : decode cX1_pass 95 = .ok (.invokevirtual 258, 3) := dk_182 1 2 (dk_at dksX1_pass_4 0 rfl rfl)
theorem dX1_pass_98 : decode cX1_pass 98 = .ok (.istore 5, 2) := dk_54 5 (dk_at dksX1_pass_4 3 rfl rfl)
theorem dX1_pass_100 : decode cX1_pass 100 = .ok (.iinc 2 1, 3) := dk_132 2 1 (dk_at dksX1_pass_4 5 rfl rfl)
theorem dX1_pass_103 : decode cX1_pass 103 = .ok (.goto (-56), 3) := dk_167 255 200 (dk_at dksX1_pass_4 8 rfl rfl)
theorem dX1_pass_106 : decode cX1_pass 106 = .ok (.iload_n 2, 1) := dk_28 (dk_at dksX1_pass_4 11 rfl rfl)
theorem dX1_pass_107 : decode cX1_pass 107 = .ok (.ireturn, 1) := dk_172 (dk_at dksX1_pass_4 12 rfl rfl)
abbrev cX1_state : ByteArray := prog_1_method_44_code
def yX1_state : MethodName := ⟨RX1, "state", "(I)I"⟩
def dkwX1_state_0 : List UInt8 := [42, 27, 182, 1, 8, 180, 1, 12, 182, 1, 51, 172]
abbrev dktX1_state_0 : List UInt8 := dkwX1_state_0 ++ []
theorem dksX1_state_0 : cX1_state.data.toList.drop 0 = dktX1_state_0 := by decide +kernel
theorem dX1_state_0 : decode cX1_state 0 = .ok (.aload_n 0, 1) := dk_42 (dk_at dksX1_state_0 0 rfl rfl)
theorem dX1_state_1 : decode cX1_state 1 = .ok (.iload_n 1, 1) := dk_27 (dk_at dksX1_state_0 1 rfl rfl)
theorem dX1_state_2 : decode cX1_state 2 = .ok (.invokevirtual 264, 3) := dk_182 1 8 (dk_at dksX1_state_0 2 rfl rfl)
theorem dX1_state_5 : decode cX1_state 5 = .ok (.getfield 268, 3) := dk_180 1 12 (dk_at dksX1_state_0 5 rfl rfl)
theorem dX1_state_8 : decode cX1_state 8 = .ok (.invokevirtual 307, 3) := dk_182 1 51 (dk_at dksX1_state_0 8 rfl rfl)
theorem dX1_state_11 : decode cX1_state 11 = .ok (.ireturn, 1) := dk_172 (dk_at dksX1_state_0 11 rfl rfl)
abbrev cX1_wagons : ByteArray := prog_1_method_45_code
def yX1_wagons : MethodName := ⟨RX1, "wagons", "(I)I"⟩
def dkwX1_wagons_0 : List UInt8 := [42, 27, 182, 1, 8, 180, 0, 246, 182, 0, 146, 172]
abbrev dktX1_wagons_0 : List UInt8 := dkwX1_wagons_0 ++ []
theorem dksX1_wagons_0 : cX1_wagons.data.toList.drop 0 = dktX1_wagons_0 := by decide +kernel
theorem dX1_wagons_0 : decode cX1_wagons 0 = .ok (.aload_n 0, 1) := dk_42 (dk_at dksX1_wagons_0 0 rfl rfl)
theorem dX1_wagons_1 : decode cX1_wagons 1 = .ok (.iload_n 1, 1) := dk_27 (dk_at dksX1_wagons_0 1 rfl rfl)
theorem dX1_wagons_2 : decode cX1_wagons 2 = .ok (.invokevirtual 264, 3) := dk_182 1 8 (dk_at dksX1_wagons_0 2 rfl rfl)
theorem dX1_wagons_5 : decode cX1_wagons 5 = .ok (.getfield 246, 3) := dk_180 0 246 (dk_at dksX1_wagons_0 5 rfl rfl)
theorem dX1_wagons_8 : decode cX1_wagons 8 = .ok (.invokevirtual 146, 3) := dk_182 0 146 (dk_at dksX1_wagons_0 8 rfl rfl)
theorem dX1_wagons_11 : decode cX1_wagons 11 = .ok (.ireturn, 1) := dk_172 (dk_at dksX1_wagons_0 11 rfl rfl)
abbrev cX1_wagonOf : ByteArray := prog_1_method_46_code
def yX1_wagonOf : MethodName := ⟨RX1, "wagonOf", "(II)I"⟩
def dkwX1_wagonOf_1 : List UInt8 := [182, 0, 74, 192, 0, 69, 180, 0, 170, 172]
abbrev dktX1_wagonOf_1 : List UInt8 := dkwX1_wagonOf_1 ++ []
def dkwX1_wagonOf_0 : List UInt8 := [42, 27, 182, 1, 8, 78, 28, 45, 180, 0, 246, 182, 0, 146, 184, 0, 147, 45, 180, 0, 246, 28]
abbrev dktX1_wagonOf_0 : List UInt8 := dkwX1_wagonOf_0 ++ dktX1_wagonOf_1
theorem dksX1_wagonOf_0 : cX1_wagonOf.data.toList.drop 0 = dktX1_wagonOf_0 := by decide +kernel
theorem dksX1_wagonOf_1 : cX1_wagonOf.data.toList.drop 22 = dktX1_wagonOf_1 := dk_seg dksX1_wagonOf_0 22 rfl rfl
theorem dX1_wagonOf_0 : decode cX1_wagonOf 0 = .ok (.aload_n 0, 1) := dk_42 (dk_at dksX1_wagonOf_0 0 rfl rfl)
theorem dX1_wagonOf_1 : decode cX1_wagonOf 1 = .ok (.iload_n 1, 1) := dk_27 (dk_at dksX1_wagonOf_0 1 rfl rfl)
theorem dX1_wagonOf_2 : decode cX1_wagonOf 2 = .ok (.invokevirtual 264, 3) := dk_182 1 8 (dk_at dksX1_wagonOf_0 2 rfl rfl)
theorem dX1_wagonOf_5 : decode cX1_wagonOf 5 = .ok (.astore_n 3, 1) := dk_78 (dk_at dksX1_wagonOf_0 5 rfl rfl)
theorem dX1_wagonOf_6 : decode cX1_wagonOf 6 = .ok (.iload_n 2, 1) := dk_28 (dk_at dksX1_wagonOf_0 6 rfl rfl)
theorem dX1_wagonOf_7 : decode cX1_wagonOf 7 = .ok (.aload_n 3, 1) := dk_45 (dk_at dksX1_wagonOf_0 7 rfl rfl)
theorem dX1_wagonOf_8 : decode cX1_wagonOf 8 = .ok (.getfield 246, 3) := dk_180 0 246 (dk_at dksX1_wagonOf_0 8 rfl rfl)
theorem dX1_wagonOf_11 : decode cX1_wagonOf 11 = .ok (.invokevirtual 146, 3) := dk_182 0 146 (dk_at dksX1_wagonOf_0 11 rfl rfl)
theorem dX1_wagonOf_14 : decode cX1_wagonOf 14 = .ok (.invokestatic 147, 3) := dk_184 0 147 (dk_at dksX1_wagonOf_0 14 rfl rfl)
theorem dX1_wagonOf_17 : decode cX1_wagonOf 17 = .ok (.aload_n 3, 1) := dk_45 (dk_at dksX1_wagonOf_0 17 rfl rfl)
theorem dX1_wagonOf_18 : decode cX1_wagonOf 18 = .ok (.getfield 246, 3) := dk_180 0 246 (dk_at dksX1_wagonOf_0 18 rfl rfl)
theorem dX1_wagonOf_21 : decode cX1_wagonOf 21 = .ok (.iload_n 2, 1) := dk_28 (dk_at dksX1_wagonOf_0 21 rfl rfl)
theorem dX1_wagonOf_22 : decode cX1_wagonOf 22 = .ok (.invokevirtual 74, 3) := dk_182 0 74 (dk_at dksX1_wagonOf_1 0 rfl rfl)
theorem dX1_wagonOf_25 : decode cX1_wagonOf 25 = .ok (.checkcast 69, 3) := dk_192 0 69 (dk_at dksX1_wagonOf_1 3 rfl rfl)
theorem dX1_wagonOf_28 : decode cX1_wagonOf 28 = .ok (.getfield 170, 3) := dk_180 0 170 (dk_at dksX1_wagonOf_1 6 rfl rfl)
theorem dX1_wagonOf_31 : decode cX1_wagonOf 31 = .ok (.ireturn, 1) := dk_172 (dk_at dksX1_wagonOf_1 9 rfl rfl)
abbrev cX1_lapses : ByteArray := prog_1_method_47_code
def yX1_lapses : MethodName := ⟨RX1, "lapses", "(I)I"⟩
def dkwX1_lapses_1 : List UInt8 := [44, 180, 1, 48, 42, 180, 1, 45, 100, 172]
abbrev dktX1_lapses_1 : List UInt8 := dkwX1_lapses_1 ++ []
def dkwX1_lapses_0 : List UInt8 := [42, 27, 182, 1, 8, 77, 44, 180, 1, 12, 178, 1, 15, 166, 0, 7, 4, 167, 0, 4, 3, 184, 0, 154]
abbrev dktX1_lapses_0 : List UInt8 := dkwX1_lapses_0 ++ dktX1_lapses_1
theorem dksX1_lapses_0 : cX1_lapses.data.toList.drop 0 = dktX1_lapses_0 := by decide +kernel
theorem dksX1_lapses_1 : cX1_lapses.data.toList.drop 24 = dktX1_lapses_1 := dk_seg dksX1_lapses_0 24 rfl rfl
theorem dX1_lapses_0 : decode cX1_lapses 0 = .ok (.aload_n 0, 1) := dk_42 (dk_at dksX1_lapses_0 0 rfl rfl)
theorem dX1_lapses_1 : decode cX1_lapses 1 = .ok (.iload_n 1, 1) := dk_27 (dk_at dksX1_lapses_0 1 rfl rfl)
theorem dX1_lapses_2 : decode cX1_lapses 2 = .ok (.invokevirtual 264, 3) := dk_182 1 8 (dk_at dksX1_lapses_0 2 rfl rfl)
theorem dX1_lapses_5 : decode cX1_lapses 5 = .ok (.astore_n 2, 1) := dk_77 (dk_at dksX1_lapses_0 5 rfl rfl)
theorem dX1_lapses_6 : decode cX1_lapses 6 = .ok (.aload_n 2, 1) := dk_44 (dk_at dksX1_lapses_0 6 rfl rfl)
theorem dX1_lapses_7 : decode cX1_lapses 7 = .ok (.getfield 268, 3) := dk_180 1 12 (dk_at dksX1_lapses_0 7 rfl rfl)
theorem dX1_lapses_10 : decode cX1_lapses 10 = .ok (.getstatic 271, 3) := dk_178 1 15 (dk_at dksX1_lapses_0 10 rfl rfl)
theorem dX1_lapses_13 : decode cX1_lapses 13 = .ok (.if_acmp .ne 7, 3) := dk_166 0 7 (dk_at dksX1_lapses_0 13 rfl rfl)
theorem dX1_lapses_16 : decode cX1_lapses 16 = .ok (.iconst 1, 1) := dk_4 (dk_at dksX1_lapses_0 16 rfl rfl)
theorem dX1_lapses_17 : decode cX1_lapses 17 = .ok (.goto 4, 3) := dk_167 0 4 (dk_at dksX1_lapses_0 17 rfl rfl)
theorem dX1_lapses_20 : decode cX1_lapses 20 = .ok (.iconst 0, 1) := dk_3 (dk_at dksX1_lapses_0 20 rfl rfl)
theorem dX1_lapses_21 : decode cX1_lapses 21 = .ok (.invokestatic 154, 3) := dk_184 0 154 (dk_at dksX1_lapses_0 21 rfl rfl)
theorem dX1_lapses_24 : decode cX1_lapses 24 = .ok (.aload_n 2, 1) := dk_44 (dk_at dksX1_lapses_1 0 rfl rfl)
theorem dX1_lapses_25 : decode cX1_lapses 25 = .ok (.getfield 304, 3) := dk_180 1 48 (dk_at dksX1_lapses_1 1 rfl rfl)
theorem dX1_lapses_28 : decode cX1_lapses 28 = .ok (.aload_n 0, 1) := dk_42 (dk_at dksX1_lapses_1 4 rfl rfl)
theorem dX1_lapses_29 : decode cX1_lapses 29 = .ok (.getfield 301, 3) := dk_180 1 45 (dk_at dksX1_lapses_1 5 rfl rfl)
theorem dX1_lapses_32 : decode cX1_lapses 32 = .ok (.isub, 1) := dk_100 (dk_at dksX1_lapses_1 8 rfl rfl)
theorem dX1_lapses_33 : decode cX1_lapses 33 = .ok (.ireturn, 1) := dk_172 (dk_at dksX1_lapses_1 9 rfl rfl)
abbrev cX1_depart : ByteArray := prog_1_method_49_code
def yX1_depart : MethodName := ⟨RX1, "depart", "(III)I"⟩
def dkwX1_depart_10 : List UInt8 := [182, 0, 50, 87, 42, 180, 0, 41, 182, 0, 146, 4, 100, 172]
abbrev dktX1_depart_10 : List UInt8 := dkwX1_depart_10 ++ []
def dkwX1_depart_9 : List UInt8 := [42, 180, 0, 41, 25, 6, 182, 0, 50, 87, 42, 180, 0, 44, 187, 1, 76, 89, 21, 4, 183, 1, 78]
abbrev dktX1_depart_9 : List UInt8 := dkwX1_depart_9 ++ dktX1_depart_10
def dkwX1_depart_8 : List UInt8 := [187, 1, 65, 89, 187, 0, 47, 89, 25, 5, 183, 1, 67, 29, 183, 1, 70, 58, 6, 25, 5, 182, 1, 73]
abbrev dktX1_depart_8 : List UInt8 := dkwX1_depart_8 ++ dktX1_depart_9
def dkwX1_depart_7 : List UInt8 := [25, 7, 2, 181, 0, 185, 25, 7, 180, 0, 89, 178, 1, 62, 182, 1, 2, 54, 8, 167, 255, 202]
abbrev dktX1_depart_7 : List UInt8 := dkwX1_depart_7 ++ dktX1_depart_8
def dkwX1_depart_6 : List UInt8 := [185, 0, 117, 1, 0, 192, 0, 69, 58, 7, 25, 7, 25, 7, 180, 0, 89, 180, 0, 239, 181, 0, 68]
abbrev dktX1_depart_6 : List UInt8 := dkwX1_depart_6 ++ dktX1_depart_7
def dkwX1_depart_5 : List UInt8 := [167, 255, 191, 25, 5, 182, 1, 54, 58, 6, 25, 6, 185, 0, 112, 1, 0, 153, 0, 50, 25, 6]
abbrev dktX1_depart_5 : List UInt8 := dkwX1_depart_5 ++ dktX1_depart_6
def dkwX1_depart_4 : List UInt8 := [153, 0, 20, 25, 7, 180, 0, 89, 21, 4, 184, 1, 58, 153, 0, 7, 4, 167, 0, 4, 3, 184, 0, 154]
abbrev dktX1_depart_4 : List UInt8 := dkwX1_depart_4 ++ dktX1_depart_5
def dkwX1_depart_3 : List UInt8 := [192, 0, 69, 58, 7, 25, 7, 180, 0, 89, 198, 0, 34, 25, 7, 180, 0, 89, 180, 1, 12, 182, 1, 55]
abbrev dktX1_depart_3 : List UInt8 := dkwX1_depart_3 ++ dktX1_depart_4
def dkwX1_depart_2 : List UInt8 := [182, 1, 54, 58, 6, 25, 6, 185, 0, 112, 1, 0, 153, 0, 61, 25, 6, 185, 0, 117, 1, 0]
abbrev dktX1_depart_2 : List UInt8 := dkwX1_depart_2 ++ dktX1_depart_3
def dkwX1_depart_1 : List UInt8 := [192, 0, 47, 58, 5, 25, 5, 182, 0, 192, 154, 0, 7, 4, 167, 0, 4, 3, 184, 0, 154, 25, 5]
abbrev dktX1_depart_1 : List UInt8 := dkwX1_depart_1 ++ dktX1_depart_2
def dkwX1_depart_0 : List UInt8 := [27, 28, 184, 0, 160, 54, 4, 27, 29, 6, 184, 0, 143, 42, 180, 0, 10, 21, 4, 182, 0, 74]
abbrev dktX1_depart_0 : List UInt8 := dkwX1_depart_0 ++ dktX1_depart_1
theorem dksX1_depart_0 : cX1_depart.data.toList.drop 0 = dktX1_depart_0 := by decide +kernel
theorem dksX1_depart_1 : cX1_depart.data.toList.drop 22 = dktX1_depart_1 := dk_seg dksX1_depart_0 22 rfl rfl
theorem dksX1_depart_2 : cX1_depart.data.toList.drop 45 = dktX1_depart_2 := dk_seg dksX1_depart_1 23 rfl rfl
theorem dksX1_depart_3 : cX1_depart.data.toList.drop 67 = dktX1_depart_3 := dk_seg dksX1_depart_2 22 rfl rfl
theorem dksX1_depart_4 : cX1_depart.data.toList.drop 91 = dktX1_depart_4 := dk_seg dksX1_depart_3 24 rfl rfl
theorem dksX1_depart_5 : cX1_depart.data.toList.drop 115 = dktX1_depart_5 := dk_seg dksX1_depart_4 24 rfl rfl
theorem dksX1_depart_6 : cX1_depart.data.toList.drop 137 = dktX1_depart_6 := dk_seg dksX1_depart_5 22 rfl rfl
theorem dksX1_depart_7 : cX1_depart.data.toList.drop 160 = dktX1_depart_7 := dk_seg dksX1_depart_6 23 rfl rfl
theorem dksX1_depart_8 : cX1_depart.data.toList.drop 182 = dktX1_depart_8 := dk_seg dksX1_depart_7 22 rfl rfl
theorem dksX1_depart_9 : cX1_depart.data.toList.drop 206 = dktX1_depart_9 := dk_seg dksX1_depart_8 24 rfl rfl
theorem dksX1_depart_10 : cX1_depart.data.toList.drop 229 = dktX1_depart_10 := dk_seg dksX1_depart_9 23 rfl rfl
theorem dX1_depart_0 : decode cX1_depart 0 = .ok (.iload_n 1, 1) := dk_27 (dk_at dksX1_depart_0 0 rfl rfl)
theorem dX1_depart_1 : decode cX1_depart 1 = .ok (.iload_n 2, 1) := dk_28 (dk_at dksX1_depart_0 1 rfl rfl)
theorem dX1_depart_2 : decode cX1_depart 2 = .ok (.invokestatic 160, 3) := dk_184 0 160 (dk_at dksX1_depart_0 2 rfl rfl)
theorem dX1_depart_5 : decode cX1_depart 5 = .ok (.istore 4, 2) := dk_54 4 (dk_at dksX1_depart_0 5 rfl rfl)
theorem dX1_depart_7 : decode cX1_depart 7 = .ok (.iload_n 1, 1) := dk_27 (dk_at dksX1_depart_0 7 rfl rfl)
theorem dX1_depart_8 : decode cX1_depart 8 = .ok (.iload_n 3, 1) := dk_29 (dk_at dksX1_depart_0 8 rfl rfl)
theorem dX1_depart_9 : decode cX1_depart 9 = .ok (.iconst 3, 1) := dk_6 (dk_at dksX1_depart_0 9 rfl rfl)
theorem dX1_depart_10 : decode cX1_depart 10 = .ok (.invokestatic 143, 3) := dk_184 0 143 (dk_at dksX1_depart_0 10 rfl rfl)
theorem dX1_depart_13 : decode cX1_depart 13 = .ok (.aload_n 0, 1) := dk_42 (dk_at dksX1_depart_0 13 rfl rfl)
theorem dX1_depart_14 : decode cX1_depart 14 = .ok (.getfield 10, 3) := dk_180 0 10 (dk_at dksX1_depart_0 14 rfl rfl)
theorem dX1_depart_17 : decode cX1_depart 17 = .ok (.iload 4, 2) := dk_21 4 (dk_at dksX1_depart_0 17 rfl rfl)
theorem dX1_depart_19 : decode cX1_depart 19 = .ok (.invokevirtual 74, 3) := dk_182 0 74 (dk_at dksX1_depart_0 19 rfl rfl)
theorem dX1_depart_22 : decode cX1_depart 22 = .ok (.checkcast 47, 3) := dk_192 0 47 (dk_at dksX1_depart_1 0 rfl rfl)
theorem dX1_depart_25 : decode cX1_depart 25 = .ok (.astore 5, 2) := dk_58 5 (dk_at dksX1_depart_1 3 rfl rfl)
theorem dX1_depart_27 : decode cX1_depart 27 = .ok (.aload 5, 2) := dk_25 5 (dk_at dksX1_depart_1 5 rfl rfl)
theorem dX1_depart_29 : decode cX1_depart 29 = .ok (.invokevirtual 192, 3) := dk_182 0 192 (dk_at dksX1_depart_1 7 rfl rfl)
theorem dX1_depart_32 : decode cX1_depart 32 = .ok (.ifCond .ne 7, 3) := dk_154 0 7 (dk_at dksX1_depart_1 10 rfl rfl)
theorem dX1_depart_35 : decode cX1_depart 35 = .ok (.iconst 1, 1) := dk_4 (dk_at dksX1_depart_1 13 rfl rfl)
theorem dX1_depart_36 : decode cX1_depart 36 = .ok (.goto 4, 3) := dk_167 0 4 (dk_at dksX1_depart_1 14 rfl rfl)
theorem dX1_depart_39 : decode cX1_depart 39 = .ok (.iconst 0, 1) := dk_3 (dk_at dksX1_depart_1 17 rfl rfl)
theorem dX1_depart_40 : decode cX1_depart 40 = .ok (.invokestatic 154, 3) := dk_184 0 154 (dk_at dksX1_depart_1 18 rfl rfl)
theorem dX1_depart_43 : decode cX1_depart 43 = .ok (.aload 5, 2) := dk_25 5 (dk_at dksX1_depart_1 21 rfl rfl)
theorem dX1_depart_45 : decode cX1_depart 45 = .ok (.invokevirtual 310, 3) := dk_182 1 54 (dk_at dksX1_depart_2 0 rfl rfl)
theorem dX1_depart_48 : decode cX1_depart 48 = .ok (.astore 6, 2) := dk_58 6 (dk_at dksX1_depart_2 3 rfl rfl)
theorem dX1_depart_50 : decode cX1_depart 50 = .ok (.aload 6, 2) := dk_25 6 (dk_at dksX1_depart_2 5 rfl rfl)
theorem dX1_depart_52 : decode cX1_depart 52 = .ok (.invokeinterface 112 1, 5) := by decide +kernel
theorem dX1_depart_57 : decode cX1_depart 57 = .ok (.ifCond .eq 61, 3) := dk_153 0 61 (dk_at dksX1_depart_2 12 rfl rfl)
theorem dX1_depart_60 : decode cX1_depart 60 = .ok (.aload 6, 2) := dk_25 6 (dk_at dksX1_depart_2 15 rfl rfl)
theorem dX1_depart_62 : decode cX1_depart 62 = .ok (.invokeinterface 117 1, 5) := by decide +kernel
theorem dX1_depart_67 : decode cX1_depart 67 = .ok (.checkcast 69, 3) := dk_192 0 69 (dk_at dksX1_depart_3 0 rfl rfl)
theorem dX1_depart_70 : decode cX1_depart 70 = .ok (.astore 7, 2) := dk_58 7 (dk_at dksX1_depart_3 3 rfl rfl)
theorem dX1_depart_72 : decode cX1_depart 72 = .ok (.aload 7, 2) := dk_25 7 (dk_at dksX1_depart_3 5 rfl rfl)
theorem dX1_depart_74 : decode cX1_depart 74 = .ok (.getfield 89, 3) := dk_180 0 89 (dk_at dksX1_depart_3 7 rfl rfl)
theorem dX1_depart_77 : decode cX1_depart 77 = .ok (.ifnull 34, 3) := dk_198 0 34 (dk_at dksX1_depart_3 10 rfl rfl)
theorem dX1_depart_80 : decode cX1_depart 80 = .ok (.aload 7, 2) := dk_25 7 (dk_at dksX1_depart_3 13 rfl rfl)
theorem dX1_depart_82 : decode cX1_depart 82 = .ok (.getfield 89, 3) := dk_180 0 89 (dk_at dksX1_depart_3 15 rfl rfl)
theorem dX1_depart_85 : decode cX1_depart 85 = .ok (.getfield 268, 3) := dk_180 1 12 (dk_at dksX1_depart_3 18 rfl rfl)
theorem dX1_depart_88 : decode cX1_depart 88 = .ok (.invokevirtual 311, 3) := dk_182 1 55 (dk_at dksX1_depart_3 21 rfl rfl)
theorem dX1_depart_91 : decode cX1_depart 91 = .ok (.ifCond .eq 20, 3) := dk_153 0 20 (dk_at dksX1_depart_4 0 rfl rfl)
theorem dX1_depart_94 : decode cX1_depart 94 = .ok (.aload 7, 2) := dk_25 7 (dk_at dksX1_depart_4 3 rfl rfl)
theorem dX1_depart_96 : decode cX1_depart 96 = .ok (.getfield 89, 3) := dk_180 0 89 (dk_at dksX1_depart_4 5 rfl rfl)
theorem dX1_depart_99 : decode cX1_depart 99 = .ok (.iload 4, 2) := dk_21 4 (dk_at dksX1_depart_4 8 rfl rfl)
theorem dX1_depart_101 : decode cX1_depart 101 = .ok (.invokestatic 314, 3) := dk_184 1 58 (dk_at dksX1_depart_4 10 rfl rfl)
theorem dX1_depart_104 : decode cX1_depart 104 = .ok (.ifCond .eq 7, 3) := dk_153 0 7 (dk_at dksX1_depart_4 13 rfl rfl)
theorem dX1_depart_107 : decode cX1_depart 107 = .ok (.iconst 1, 1) := dk_4 (dk_at dksX1_depart_4 16 rfl rfl)
theorem dX1_depart_108 : decode cX1_depart 108 = .ok (.goto 4, 3) := dk_167 0 4 (dk_at dksX1_depart_4 17 rfl rfl)
theorem dX1_depart_111 : decode cX1_depart 111 = .ok (.iconst 0, 1) := dk_3 (dk_at dksX1_depart_4 20 rfl rfl)
theorem dX1_depart_112 : decode cX1_depart 112 = .ok (.invokestatic 154, 3) := dk_184 0 154 (dk_at dksX1_depart_4 21 rfl rfl)
theorem dX1_depart_115 : decode cX1_depart 115 = .ok (.goto (-65), 3) := dk_167 255 191 (dk_at dksX1_depart_5 0 rfl rfl)
theorem dX1_depart_118 : decode cX1_depart 118 = .ok (.aload 5, 2) := dk_25 5 (dk_at dksX1_depart_5 3 rfl rfl)
theorem dX1_depart_120 : decode cX1_depart 120 = .ok (.invokevirtual 310, 3) := dk_182 1 54 (dk_at dksX1_depart_5 5 rfl rfl)
theorem dX1_depart_123 : decode cX1_depart 123 = .ok (.astore 6, 2) := dk_58 6 (dk_at dksX1_depart_5 8 rfl rfl)
theorem dX1_depart_125 : decode cX1_depart 125 = .ok (.aload 6, 2) := dk_25 6 (dk_at dksX1_depart_5 10 rfl rfl)
theorem dX1_depart_127 : decode cX1_depart 127 = .ok (.invokeinterface 112 1, 5) := by decide +kernel
theorem dX1_depart_132 : decode cX1_depart 132 = .ok (.ifCond .eq 50, 3) := dk_153 0 50 (dk_at dksX1_depart_5 17 rfl rfl)
theorem dX1_depart_135 : decode cX1_depart 135 = .ok (.aload 6, 2) := dk_25 6 (dk_at dksX1_depart_5 20 rfl rfl)
theorem dX1_depart_137 : decode cX1_depart 137 = .ok (.invokeinterface 117 1, 5) := by decide +kernel
theorem dX1_depart_142 : decode cX1_depart 142 = .ok (.checkcast 69, 3) := dk_192 0 69 (dk_at dksX1_depart_6 5 rfl rfl)
theorem dX1_depart_145 : decode cX1_depart 145 = .ok (.astore 7, 2) := dk_58 7 (dk_at dksX1_depart_6 8 rfl rfl)
theorem dX1_depart_147 : decode cX1_depart 147 = .ok (.aload 7, 2) := dk_25 7 (dk_at dksX1_depart_6 10 rfl rfl)
theorem dX1_depart_149 : decode cX1_depart 149 = .ok (.aload 7, 2) := dk_25 7 (dk_at dksX1_depart_6 12 rfl rfl)
theorem dX1_depart_151 : decode cX1_depart 151 = .ok (.getfield 89, 3) := dk_180 0 89 (dk_at dksX1_depart_6 14 rfl rfl)
theorem dX1_depart_154 : decode cX1_depart 154 = .ok (.getfield 239, 3) := dk_180 0 239 (dk_at dksX1_depart_6 17 rfl rfl)
theorem dX1_depart_157 : decode cX1_depart 157 = .ok (.putfield 68, 3) := dk_181 0 68 (dk_at dksX1_depart_6 20 rfl rfl)
theorem dX1_depart_160 : decode cX1_depart 160 = .ok (.aload 7, 2) := dk_25 7 (dk_at dksX1_depart_7 0 rfl rfl)
theorem dX1_depart_162 : decode cX1_depart 162 = .ok (.iconst (-1), 1) := dk_2 (dk_at dksX1_depart_7 2 rfl rfl)
theorem dX1_depart_163 : decode cX1_depart 163 = .ok (.putfield 185, 3) := dk_181 0 185 (dk_at dksX1_depart_7 3 rfl rfl)
theorem dX1_depart_166 : decode cX1_depart 166 = .ok (.aload 7, 2) := dk_25 7 (dk_at dksX1_depart_7 6 rfl rfl)
theorem dX1_depart_168 : decode cX1_depart 168 = .ok (.getfield 89, 3) := dk_180 0 89 (dk_at dksX1_depart_7 8 rfl rfl)
theorem dX1_depart_171 : decode cX1_depart 171 = .ok (.getstatic 318, 3) := dk_178 1 62 (dk_at dksX1_depart_7 11 rfl rfl)
theorem dX1_depart_174 : decode cX1_depart 174 = .ok (.invokevirtual 258, 3) := dk_182 1 2 (dk_at dksX1_depart_7 14 rfl rfl)
theorem dX1_depart_177 : decode cX1_depart 177 = .ok (.istore 8, 2) := dk_54 8 (dk_at dksX1_depart_7 17 rfl rfl)
theorem dX1_depart_179 : decode cX1_depart 179 = .ok (.goto (-54), 3) := dk_167 255 202 (dk_at dksX1_depart_7 19 rfl rfl)
theorem dX1_depart_182 : decode cX1_depart 182 = .ok (.new 321, 3) := dk_187 1 65 (dk_at dksX1_depart_8 0 rfl rfl)
theorem dX1_depart_185 : decode cX1_depart 185 = .ok (.dup, 1) := dk_89 (dk_at dksX1_depart_8 3 rfl rfl)
theorem dX1_depart_186 : decode cX1_depart 186 = .ok (.new 47, 3) := dk_187 0 47 (dk_at dksX1_depart_8 4 rfl rfl)
theorem dX1_depart_189 : decode cX1_depart 189 = .ok (.dup, 1) := dk_89 (dk_at dksX1_depart_8 7 rfl rfl)
theorem dX1_depart_190 : decode cX1_depart 190 = .ok (.aload 5, 2) := dk_25 5 (dk_at dksX1_depart_8 8 rfl rfl)
theorem dX1_depart_192 : decode cX1_depart 192 = .ok (.invokespecial 323, 3) := dk_183 1 67 (dk_at dksX1_depart_8 10 rfl rfl)
theorem dX1_depart_195 : decode cX1_depart 195 = .ok (.iload_n 3, 1) := dk_29 (dk_at dksX1_depart_8 13 rfl rfl)
theorem dX1_depart_196 : decode cX1_depart 196 = .ok (.invokespecial 326, 3) := dk_183 1 70 (dk_at dksX1_depart_8 14 rfl rfl)
theorem dX1_depart_199 : decode cX1_depart 199 = .ok (.astore 6, 2) := dk_58 6 (dk_at dksX1_depart_8 17 rfl rfl)
theorem dX1_depart_201 : decode cX1_depart 201 = .ok (.aload 5, 2) := dk_25 5 (dk_at dksX1_depart_8 19 rfl rfl)
theorem dX1_depart_203 : decode cX1_depart 203 = .ok (.invokevirtual 329, 3) := dk_182 1 73 (dk_at dksX1_depart_8 21 rfl rfl)
theorem dX1_depart_206 : decode cX1_depart 206 = .ok (.aload_n 0, 1) := dk_42 (dk_at dksX1_depart_9 0 rfl rfl)
theorem dX1_depart_207 : decode cX1_depart 207 = .ok (.getfield 41, 3) := dk_180 0 41 (dk_at dksX1_depart_9 1 rfl rfl)
theorem dX1_depart_210 : decode cX1_depart 210 = .ok (.aload 6, 2) := dk_25 6 (dk_at dksX1_depart_9 4 rfl rfl)
theorem dX1_depart_212 : decode cX1_depart 212 = .ok (.invokevirtual 50, 3) := dk_182 0 50 (dk_at dksX1_depart_9 6 rfl rfl)
theorem dX1_depart_215 : decode cX1_depart 215 = .ok (.pop, 1) := dk_87 (dk_at dksX1_depart_9 9 rfl rfl)
theorem dX1_depart_216 : decode cX1_depart 216 = .ok (.aload_n 0, 1) := dk_42 (dk_at dksX1_depart_9 10 rfl rfl)
theorem dX1_depart_217 : decode cX1_depart 217 = .ok (.getfield 44, 3) := dk_180 0 44 (dk_at dksX1_depart_9 11 rfl rfl)
theorem dX1_depart_220 : decode cX1_depart 220 = .ok (.new 332, 3) := dk_187 1 76 (dk_at dksX1_depart_9 14 rfl rfl)
theorem dX1_depart_223 : decode cX1_depart 223 = .ok (.dup, 1) := dk_89 (dk_at dksX1_depart_9 17 rfl rfl)
theorem dX1_depart_224 : decode cX1_depart 224 = .ok (.iload 4, 2) := dk_21 4 (dk_at dksX1_depart_9 18 rfl rfl)
theorem dX1_depart_226 : decode cX1_depart 226 = .ok (.invokespecial 334, 3) := dk_183 1 78 (dk_at dksX1_depart_9 20 rfl rfl)
theorem dX1_depart_229 : decode cX1_depart 229 = .ok (.invokevirtual 50, 3) := dk_182 0 50 (dk_at dksX1_depart_10 0 rfl rfl)
theorem dX1_depart_232 : decode cX1_depart 232 = .ok (.pop, 1) := dk_87 (dk_at dksX1_depart_10 3 rfl rfl)
theorem dX1_depart_233 : decode cX1_depart 233 = .ok (.aload_n 0, 1) := dk_42 (dk_at dksX1_depart_10 4 rfl rfl)
theorem dX1_depart_234 : decode cX1_depart 234 = .ok (.getfield 41, 3) := dk_180 0 41 (dk_at dksX1_depart_10 5 rfl rfl)
theorem dX1_depart_237 : decode cX1_depart 237 = .ok (.invokevirtual 146, 3) := dk_182 0 146 (dk_at dksX1_depart_10 8 rfl rfl)
theorem dX1_depart_240 : decode cX1_depart 240 = .ok (.iconst 1, 1) := dk_4 (dk_at dksX1_depart_10 11 rfl rfl)
theorem dX1_depart_241 : decode cX1_depart 241 = .ok (.isub, 1) := dk_100 (dk_at dksX1_depart_10 12 rfl rfl)
theorem dX1_depart_242 : decode cX1_depart 242 = .ok (.ireturn, 1) := dk_172 (dk_at dksX1_depart_10 13 rfl rfl)
abbrev cX1_isWhole : ByteArray := prog_1_method_48_code
def yX1_isWhole : MethodName := ⟨RX1, "isWhole", "(LTrunkYards$Booking;I)Z"⟩
def dkwX1_isWhole_2 : List UInt8 := [3, 126, 61, 167, 255, 219, 28, 172]
abbrev dktX1_isWhole_2 : List UInt8 := dkwX1_isWhole_2 ++ []
def dkwX1_isWhole_1 : List UInt8 := [185, 0, 117, 1, 0, 192, 0, 69, 58, 4, 28, 25, 4, 180, 0, 185, 27, 160, 0, 7, 4, 167, 0, 4]
abbrev dktX1_isWhole_1 : List UInt8 := dkwX1_isWhole_1 ++ dktX1_isWhole_2
def dkwX1_isWhole_0 : List UInt8 := [4, 61, 42, 180, 0, 246, 182, 0, 108, 78, 45, 185, 0, 112, 1, 0, 153, 0, 34, 45]
abbrev dktX1_isWhole_0 : List UInt8 := dkwX1_isWhole_0 ++ dktX1_isWhole_1
theorem dksX1_isWhole_0 : cX1_isWhole.data.toList.drop 0 = dktX1_isWhole_0 := by decide +kernel
theorem dksX1_isWhole_1 : cX1_isWhole.data.toList.drop 20 = dktX1_isWhole_1 := dk_seg dksX1_isWhole_0 20 rfl rfl
theorem dksX1_isWhole_2 : cX1_isWhole.data.toList.drop 44 = dktX1_isWhole_2 := dk_seg dksX1_isWhole_1 24 rfl rfl
theorem dX1_isWhole_0 : decode cX1_isWhole 0 = .ok (.iconst 1, 1) := dk_4 (dk_at dksX1_isWhole_0 0 rfl rfl)
theorem dX1_isWhole_1 : decode cX1_isWhole 1 = .ok (.istore_n 2, 1) := dk_61 (dk_at dksX1_isWhole_0 1 rfl rfl)
theorem dX1_isWhole_2 : decode cX1_isWhole 2 = .ok (.aload_n 0, 1) := dk_42 (dk_at dksX1_isWhole_0 2 rfl rfl)
theorem dX1_isWhole_3 : decode cX1_isWhole 3 = .ok (.getfield 246, 3) := dk_180 0 246 (dk_at dksX1_isWhole_0 3 rfl rfl)
theorem dX1_isWhole_6 : decode cX1_isWhole 6 = .ok (.invokevirtual 108, 3) := dk_182 0 108 (dk_at dksX1_isWhole_0 6 rfl rfl)
theorem dX1_isWhole_9 : decode cX1_isWhole 9 = .ok (.astore_n 3, 1) := dk_78 (dk_at dksX1_isWhole_0 9 rfl rfl)
theorem dX1_isWhole_10 : decode cX1_isWhole 10 = .ok (.aload_n 3, 1) := dk_45 (dk_at dksX1_isWhole_0 10 rfl rfl)
theorem dX1_isWhole_11 : decode cX1_isWhole 11 = .ok (.invokeinterface 112 1, 5) := by decide +kernel
theorem dX1_isWhole_16 : decode cX1_isWhole 16 = .ok (.ifCond .eq 34, 3) := dk_153 0 34 (dk_at dksX1_isWhole_0 16 rfl rfl)
theorem dX1_isWhole_19 : decode cX1_isWhole 19 = .ok (.aload_n 3, 1) := dk_45 (dk_at dksX1_isWhole_0 19 rfl rfl)
theorem dX1_isWhole_20 : decode cX1_isWhole 20 = .ok (.invokeinterface 117 1, 5) := by decide +kernel
theorem dX1_isWhole_25 : decode cX1_isWhole 25 = .ok (.checkcast 69, 3) := dk_192 0 69 (dk_at dksX1_isWhole_1 5 rfl rfl)
theorem dX1_isWhole_28 : decode cX1_isWhole 28 = .ok (.astore 4, 2) := dk_58 4 (dk_at dksX1_isWhole_1 8 rfl rfl)
theorem dX1_isWhole_30 : decode cX1_isWhole 30 = .ok (.iload_n 2, 1) := dk_28 (dk_at dksX1_isWhole_1 10 rfl rfl)
theorem dX1_isWhole_31 : decode cX1_isWhole 31 = .ok (.aload 4, 2) := dk_25 4 (dk_at dksX1_isWhole_1 11 rfl rfl)
theorem dX1_isWhole_33 : decode cX1_isWhole 33 = .ok (.getfield 185, 3) := dk_180 0 185 (dk_at dksX1_isWhole_1 13 rfl rfl)
theorem dX1_isWhole_36 : decode cX1_isWhole 36 = .ok (.iload_n 1, 1) := dk_27 (dk_at dksX1_isWhole_1 16 rfl rfl)
theorem dX1_isWhole_37 : decode cX1_isWhole 37 = .ok (.if_icmp .ne 7, 3) := dk_160 0 7 (dk_at dksX1_isWhole_1 17 rfl rfl)
theorem dX1_isWhole_40 : decode cX1_isWhole 40 = .ok (.iconst 1, 1) := dk_4 (dk_at dksX1_isWhole_1 20 rfl rfl)
theorem dX1_isWhole_41 : decode cX1_isWhole 41 = .ok (.goto 4, 3) := dk_167 0 4 (dk_at dksX1_isWhole_1 21 rfl rfl)
theorem dX1_isWhole_44 : decode cX1_isWhole 44 = .ok (.iconst 0, 1) := dk_3 (dk_at dksX1_isWhole_2 0 rfl rfl)
theorem dX1_isWhole_45 : decode cX1_isWhole 45 = .ok (.iand, 1) := dk_126 (dk_at dksX1_isWhole_2 1 rfl rfl)
theorem dX1_isWhole_46 : decode cX1_isWhole 46 = .ok (.istore_n 2, 1) := dk_61 (dk_at dksX1_isWhole_2 2 rfl rfl)
theorem dX1_isWhole_47 : decode cX1_isWhole 47 = .ok (.goto (-37), 3) := dk_167 255 219 (dk_at dksX1_isWhole_2 3 rfl rfl)
theorem dX1_isWhole_50 : decode cX1_isWhole 50 = .ok (.iload_n 2, 1) := dk_28 (dk_at dksX1_isWhole_2 6 rfl rfl)
theorem dX1_isWhole_51 : decode cX1_isWhole 51 = .ok (.ireturn, 1) := dk_172 (dk_at dksX1_isWhole_2 7 rfl rfl)
abbrev cX1_arrive : ByteArray := prog_1_method_50_code
def yX1_arrive : MethodName := ⟨RX1, "arrive", "(II)I"⟩
def dkwX1_arrive_8 : List UInt8 := [25, 5, 182, 0, 78, 172]
abbrev dktX1_arrive_8 : List UInt8 := dkwX1_arrive_8 ++ []
def dkwX1_arrive_7 : List UInt8 := [54, 8, 167, 255, 195, 42, 180, 0, 44, 187, 1, 93, 89, 27, 21, 4, 183, 1, 95, 182, 0, 50, 87]
abbrev dktX1_arrive_7 : List UInt8 := dkwX1_arrive_7 ++ dktX1_arrive_8
def dkwX1_arrive_6 : List UInt8 := [25, 7, 180, 0, 89, 199, 0, 7, 3, 167, 0, 14, 25, 7, 180, 0, 89, 178, 1, 90, 182, 1, 2]
abbrev dktX1_arrive_6 : List UInt8 := dkwX1_arrive_6 ++ dktX1_arrive_7
def dkwX1_arrive_5 : List UInt8 := [185, 0, 117, 1, 0, 192, 0, 69, 58, 7, 25, 7, 21, 4, 181, 0, 185, 25, 5, 25, 7, 182, 0, 164]
abbrev dktX1_arrive_5 : List UInt8 := dkwX1_arrive_5 ++ dktX1_arrive_6
def dkwX1_arrive_4 : List UInt8 := [180, 1, 87, 182, 1, 54, 58, 6, 25, 6, 185, 0, 112, 1, 0, 153, 0, 57, 25, 6]
abbrev dktX1_arrive_4 : List UInt8 := dkwX1_arrive_4 ++ dktX1_arrive_5
def dkwX1_arrive_3 : List UInt8 := [182, 0, 78, 96, 16, 6, 163, 0, 7, 4, 167, 0, 4, 3, 184, 0, 154, 45, 4, 181, 1, 84, 45]
abbrev dktX1_arrive_3 : List UInt8 := dkwX1_arrive_3 ++ dktX1_arrive_4
def dkwX1_arrive_2 : List UInt8 := [182, 0, 74, 192, 0, 47, 58, 5, 45, 180, 1, 84, 154, 0, 25, 25, 5, 182, 0, 78, 45, 180, 1, 87]
abbrev dktX1_arrive_2 : List UInt8 := dkwX1_arrive_2 ++ dktX1_arrive_3
def dkwX1_arrive_1 : List UInt8 := [182, 0, 74, 192, 1, 65, 78, 8, 45, 180, 1, 81, 104, 28, 96, 54, 4, 42, 180, 0, 10, 21, 4]
abbrev dktX1_arrive_1 : List UInt8 := dkwX1_arrive_1 ++ dktX1_arrive_2
def dkwX1_arrive_0 : List UInt8 := [27, 42, 180, 0, 41, 182, 0, 146, 184, 0, 147, 28, 3, 7, 184, 0, 139, 42, 180, 0, 41, 27]
abbrev dktX1_arrive_0 : List UInt8 := dkwX1_arrive_0 ++ dktX1_arrive_1
theorem dksX1_arrive_0 : cX1_arrive.data.toList.drop 0 = dktX1_arrive_0 := by decide +kernel
theorem dksX1_arrive_1 : cX1_arrive.data.toList.drop 22 = dktX1_arrive_1 := dk_seg dksX1_arrive_0 22 rfl rfl
theorem dksX1_arrive_2 : cX1_arrive.data.toList.drop 45 = dktX1_arrive_2 := dk_seg dksX1_arrive_1 23 rfl rfl
theorem dksX1_arrive_3 : cX1_arrive.data.toList.drop 69 = dktX1_arrive_3 := dk_seg dksX1_arrive_2 24 rfl rfl
theorem dksX1_arrive_4 : cX1_arrive.data.toList.drop 92 = dktX1_arrive_4 := dk_seg dksX1_arrive_3 23 rfl rfl
theorem dksX1_arrive_5 : cX1_arrive.data.toList.drop 112 = dktX1_arrive_5 := dk_seg dksX1_arrive_4 20 rfl rfl
theorem dksX1_arrive_6 : cX1_arrive.data.toList.drop 136 = dktX1_arrive_6 := dk_seg dksX1_arrive_5 24 rfl rfl
theorem dksX1_arrive_7 : cX1_arrive.data.toList.drop 159 = dktX1_arrive_7 := dk_seg dksX1_arrive_6 23 rfl rfl
theorem dksX1_arrive_8 : cX1_arrive.data.toList.drop 182 = dktX1_arrive_8 := dk_seg dksX1_arrive_7 23 rfl rfl
theorem dX1_arrive_0 : decode cX1_arrive 0 = .ok (.iload_n 1, 1) := dk_27 (dk_at dksX1_arrive_0 0 rfl rfl)
theorem dX1_arrive_1 : decode cX1_arrive 1 = .ok (.aload_n 0, 1) := dk_42 (dk_at dksX1_arrive_0 1 rfl rfl)
theorem dX1_arrive_2 : decode cX1_arrive 2 = .ok (.getfield 41, 3) := dk_180 0 41 (dk_at dksX1_arrive_0 2 rfl rfl)
theorem dX1_arrive_5 : decode cX1_arrive 5 = .ok (.invokevirtual 146, 3) := dk_182 0 146 (dk_at dksX1_arrive_0 5 rfl rfl)
theorem dX1_arrive_8 : decode cX1_arrive 8 = .ok (.invokestatic 147, 3) := dk_184 0 147 (dk_at dksX1_arrive_0 8 rfl rfl)
theorem dX1_arrive_11 : decode cX1_arrive 11 = .ok (.iload_n 2, 1) := dk_28 (dk_at dksX1_arrive_0 11 rfl rfl)
theorem dX1_arrive_12 : decode cX1_arrive 12 = .ok (.iconst 0, 1) := dk_3 (dk_at dksX1_arrive_0 12 rfl rfl)
theorem dX1_arrive_13 : decode cX1_arrive 13 = .ok (.iconst 4, 1) := dk_7 (dk_at dksX1_arrive_0 13 rfl rfl)
theorem dX1_arrive_14 : decode cX1_arrive 14 = .ok (.invokestatic 139, 3) := dk_184 0 139 (dk_at dksX1_arrive_0 14 rfl rfl)
theorem dX1_arrive_17 : decode cX1_arrive 17 = .ok (.aload_n 0, 1) := dk_42 (dk_at dksX1_arrive_0 17 rfl rfl)
theorem dX1_arrive_18 : decode cX1_arrive 18 = .ok (.getfield 41, 3) := dk_180 0 41 (dk_at dksX1_arrive_0 18 rfl rfl)
theorem dX1_arrive_21 : decode cX1_arrive 21 = .ok (.iload_n 1, 1) := dk_27 (dk_at dksX1_arrive_0 21 rfl rfl)
theorem dX1_arrive_22 : decode cX1_arrive 22 = .ok (.invokevirtual 74, 3) := dk_182 0 74 (dk_at dksX1_arrive_1 0 rfl rfl)
theorem dX1_arrive_25 : decode cX1_arrive 25 = .ok (.checkcast 321, 3) := dk_192 1 65 (dk_at dksX1_arrive_1 3 rfl rfl)
theorem dX1_arrive_28 : decode cX1_arrive 28 = .ok (.astore_n 3, 1) := dk_78 (dk_at dksX1_arrive_1 6 rfl rfl)
theorem dX1_arrive_29 : decode cX1_arrive 29 = .ok (.iconst 5, 1) := dk_8 (dk_at dksX1_arrive_1 7 rfl rfl)
theorem dX1_arrive_30 : decode cX1_arrive 30 = .ok (.aload_n 3, 1) := dk_45 (dk_at dksX1_arrive_1 8 rfl rfl)
theorem dX1_arrive_31 : decode cX1_arrive 31 = .ok (.getfield 337, 3) := dk_180 1 81 (dk_at dksX1_arrive_1 9 rfl rfl)
theorem dX1_arrive_34 : decode cX1_arrive 34 = .ok (.imul, 1) := dk_104 (dk_at dksX1_arrive_1 12 rfl rfl)
theorem dX1_arrive_35 : decode cX1_arrive 35 = .ok (.iload_n 2, 1) := dk_28 (dk_at dksX1_arrive_1 13 rfl rfl)
theorem dX1_arrive_36 : decode cX1_arrive 36 = .ok (.iadd, 1) := dk_96 (dk_at dksX1_arrive_1 14 rfl rfl)
theorem dX1_arrive_37 : decode cX1_arrive 37 = .ok (.istore 4, 2) := dk_54 4 (dk_at dksX1_arrive_1 15 rfl rfl)
theorem dX1_arrive_39 : decode cX1_arrive 39 = .ok (.aload_n 0, 1) := dk_42 (dk_at dksX1_arrive_1 17 rfl rfl)
theorem dX1_arrive_40 : decode cX1_arrive 40 = .ok (.getfield 10, 3) := dk_180 0 10 (dk_at dksX1_arrive_1 18 rfl rfl)
theorem dX1_arrive_43 : decode cX1_arrive 43 = .ok (.iload 4, 2) := dk_21 4 (dk_at dksX1_arrive_1 21 rfl rfl)
theorem dX1_arrive_45 : decode cX1_arrive 45 = .ok (.invokevirtual 74, 3) := dk_182 0 74 (dk_at dksX1_arrive_2 0 rfl rfl)
theorem dX1_arrive_48 : decode cX1_arrive 48 = .ok (.checkcast 47, 3) := dk_192 0 47 (dk_at dksX1_arrive_2 3 rfl rfl)
theorem dX1_arrive_51 : decode cX1_arrive 51 = .ok (.astore 5, 2) := dk_58 5 (dk_at dksX1_arrive_2 6 rfl rfl)
theorem dX1_arrive_53 : decode cX1_arrive 53 = .ok (.aload_n 3, 1) := dk_45 (dk_at dksX1_arrive_2 8 rfl rfl)
theorem dX1_arrive_54 : decode cX1_arrive 54 = .ok (.getfield 340, 3) := dk_180 1 84 (dk_at dksX1_arrive_2 9 rfl rfl)
theorem dX1_arrive_57 : decode cX1_arrive 57 = .ok (.ifCond .ne 25, 3) := dk_154 0 25 (dk_at dksX1_arrive_2 12 rfl rfl)
theorem dX1_arrive_60 : decode cX1_arrive 60 = .ok (.aload 5, 2) := dk_25 5 (dk_at dksX1_arrive_2 15 rfl rfl)
theorem dX1_arrive_62 : decode cX1_arrive 62 = .ok (.invokevirtual 78, 3) := dk_182 0 78 (dk_at dksX1_arrive_2 17 rfl rfl)
theorem dX1_arrive_65 : decode cX1_arrive 65 = .ok (.aload_n 3, 1) := dk_45 (dk_at dksX1_arrive_2 20 rfl rfl)
theorem dX1_arrive_66 : decode cX1_arrive 66 = .ok (.getfield 343, 3) := dk_180 1 87 (dk_at dksX1_arrive_2 21 rfl rfl)
theorem dX1_arrive_69 : decode cX1_arrive 69 = .ok (.invokevirtual 78, 3) := dk_182 0 78 (dk_at dksX1_arrive_3 0 rfl rfl)
theorem dX1_arrive_72 : decode cX1_arrive 72 = .ok (.iadd, 1) := dk_96 (dk_at dksX1_arrive_3 3 rfl rfl)
theorem dX1_arrive_73 : decode cX1_arrive 73 = .ok (.bipush 6, 2) := dk_16 6 (dk_at dksX1_arrive_3 4 rfl rfl)
theorem dX1_arrive_75 : decode cX1_arrive 75 = .ok (.if_icmp .gt 7, 3) := dk_163 0 7 (dk_at dksX1_arrive_3 6 rfl rfl)
theorem dX1_arrive_78 : decode cX1_arrive 78 = .ok (.iconst 1, 1) := dk_4 (dk_at dksX1_arrive_3 9 rfl rfl)
theorem dX1_arrive_79 : decode cX1_arrive 79 = .ok (.goto 4, 3) := dk_167 0 4 (dk_at dksX1_arrive_3 10 rfl rfl)
theorem dX1_arrive_82 : decode cX1_arrive 82 = .ok (.iconst 0, 1) := dk_3 (dk_at dksX1_arrive_3 13 rfl rfl)
theorem dX1_arrive_83 : decode cX1_arrive 83 = .ok (.invokestatic 154, 3) := dk_184 0 154 (dk_at dksX1_arrive_3 14 rfl rfl)
theorem dX1_arrive_86 : decode cX1_arrive 86 = .ok (.aload_n 3, 1) := dk_45 (dk_at dksX1_arrive_3 17 rfl rfl)
theorem dX1_arrive_87 : decode cX1_arrive 87 = .ok (.iconst 1, 1) := dk_4 (dk_at dksX1_arrive_3 18 rfl rfl)
theorem dX1_arrive_88 : decode cX1_arrive 88 = .ok (.putfield 340, 3) := dk_181 1 84 (dk_at dksX1_arrive_3 19 rfl rfl)
theorem dX1_arrive_91 : decode cX1_arrive 91 = .ok (.aload_n 3, 1) := dk_45 (dk_at dksX1_arrive_3 22 rfl rfl)
theorem dX1_arrive_92 : decode cX1_arrive 92 = .ok (.getfield 343, 3) := dk_180 1 87 (dk_at dksX1_arrive_4 0 rfl rfl)
theorem dX1_arrive_95 : decode cX1_arrive 95 = .ok (.invokevirtual 310, 3) := dk_182 1 54 (dk_at dksX1_arrive_4 3 rfl rfl)
theorem dX1_arrive_98 : decode cX1_arrive 98 = .ok (.astore 6, 2) := dk_58 6 (dk_at dksX1_arrive_4 6 rfl rfl)
theorem dX1_arrive_100 : decode cX1_arrive 100 = .ok (.aload 6, 2) := dk_25 6 (dk_at dksX1_arrive_4 8 rfl rfl)
theorem dX1_arrive_102 : decode cX1_arrive 102 = .ok (.invokeinterface 112 1, 5) := by decide +kernel
theorem dX1_arrive_107 : decode cX1_arrive 107 = .ok (.ifCond .eq 57, 3) := dk_153 0 57 (dk_at dksX1_arrive_4 15 rfl rfl)
theorem dX1_arrive_110 : decode cX1_arrive 110 = .ok (.aload 6, 2) := dk_25 6 (dk_at dksX1_arrive_4 18 rfl rfl)
theorem dX1_arrive_112 : decode cX1_arrive 112 = .ok (.invokeinterface 117 1, 5) := by decide +kernel
theorem dX1_arrive_117 : decode cX1_arrive 117 = .ok (.checkcast 69, 3) := dk_192 0 69 (dk_at dksX1_arrive_5 5 rfl rfl)
theorem dX1_arrive_120 : decode cX1_arrive 120 = .ok (.astore 7, 2) := dk_58 7 (dk_at dksX1_arrive_5 8 rfl rfl)
theorem dX1_arrive_122 : decode cX1_arrive 122 = .ok (.aload 7, 2) := dk_25 7 (dk_at dksX1_arrive_5 10 rfl rfl)
theorem dX1_arrive_124 : decode cX1_arrive 124 = .ok (.iload 4, 2) := dk_21 4 (dk_at dksX1_arrive_5 12 rfl rfl)
theorem dX1_arrive_126 : decode cX1_arrive 126 = .ok (.putfield 185, 3) := dk_181 0 185 (dk_at dksX1_arrive_5 14 rfl rfl)
theorem dX1_arrive_129 : decode cX1_arrive 129 = .ok (.aload 5, 2) := dk_25 5 (dk_at dksX1_arrive_5 17 rfl rfl)
theorem dX1_arrive_131 : decode cX1_arrive 131 = .ok (.aload 7, 2) := dk_25 7 (dk_at dksX1_arrive_5 19 rfl rfl)
theorem dX1_arrive_133 : decode cX1_arrive 133 = .ok (.invokevirtual 164, 3) := dk_182 0 164 (dk_at dksX1_arrive_5 21 rfl rfl)
theorem dX1_arrive_136 : decode cX1_arrive 136 = .ok (.aload 7, 2) := dk_25 7 (dk_at dksX1_arrive_6 0 rfl rfl)
theorem dX1_arrive_138 : decode cX1_arrive 138 = .ok (.getfield 89, 3) := dk_180 0 89 (dk_at dksX1_arrive_6 2 rfl rfl)
theorem dX1_arrive_141 : decode cX1_arrive 141 = .ok (.ifnonnull 7, 3) := dk_199 0 7 (dk_at dksX1_arrive_6 5 rfl rfl)
theorem dX1_arrive_144 : decode cX1_arrive 144 = .ok (.iconst 0, 1) := dk_3 (dk_at dksX1_arrive_6 8 rfl rfl)
theorem dX1_arrive_145 : decode cX1_arrive 145 = .ok (.goto 14, 3) := dk_167 0 14 (dk_at dksX1_arrive_6 9 rfl rfl)
theorem dX1_arrive_148 : decode cX1_arrive 148 = .ok (.aload 7, 2) := dk_25 7 (dk_at dksX1_arrive_6 12 rfl rfl)
theorem dX1_arrive_150 : decode cX1_arrive 150 = .ok (.getfield 89, 3) := dk_180 0 89 (dk_at dksX1_arrive_6 14 rfl rfl)
theorem dX1_arrive_153 : decode cX1_arrive 153 = .ok (.getstatic 346, 3) := dk_178 1 90 (dk_at dksX1_arrive_6 17 rfl rfl)
theorem dX1_arrive_156 : decode cX1_arrive 156 = .ok (.invokevirtual 258, 3) := dk_182 1 2 (dk_at dksX1_arrive_6 20 rfl rfl)
theorem dX1_arrive_159 : decode cX1_arrive 159 = .ok (.istore 8, 2) := dk_54 8 (dk_at dksX1_arrive_7 0 rfl rfl)
theorem dX1_arrive_161 : decode cX1_arrive 161 = .ok (.goto (-61), 3) := dk_167 255 195 (dk_at dksX1_arrive_7 2 rfl rfl)
theorem dX1_arrive_164 : decode cX1_arrive 164 = .ok (.aload_n 0, 1) := dk_42 (dk_at dksX1_arrive_7 5 rfl rfl)
theorem dX1_arrive_165 : decode cX1_arrive 165 = .ok (.getfield 44, 3) := dk_180 0 44 (dk_at dksX1_arrive_7 6 rfl rfl)
theorem dX1_arrive_168 : decode cX1_arrive 168 = .ok (.new 349, 3) := dk_187 1 93 (dk_at dksX1_arrive_7 9 rfl rfl)
theorem dX1_arrive_171 : decode cX1_arrive 171 = .ok (.dup, 1) := dk_89 (dk_at dksX1_arrive_7 12 rfl rfl)
theorem dX1_arrive_172 : decode cX1_arrive 172 = .ok (.iload_n 1, 1) := dk_27 (dk_at dksX1_arrive_7 13 rfl rfl)
theorem dX1_arrive_173 : decode cX1_arrive 173 = .ok (.iload 4, 2) := dk_21 4 (dk_at dksX1_arrive_7 14 rfl rfl)
theorem dX1_arrive_175 : decode cX1_arrive 175 = .ok (.invokespecial 351, 3) := dk_183 1 95 (dk_at dksX1_arrive_7 16 rfl rfl)
theorem dX1_arrive_178 : decode cX1_arrive 178 = .ok (.invokevirtual 50, 3) := dk_182 0 50 (dk_at dksX1_arrive_7 19 rfl rfl)
theorem dX1_arrive_181 : decode cX1_arrive 181 = .ok (.pop, 1) := dk_87 (dk_at dksX1_arrive_7 22 rfl rfl)
theorem dX1_arrive_182 : decode cX1_arrive 182 = .ok (.aload 5, 2) := dk_25 5 (dk_at dksX1_arrive_8 0 rfl rfl)
theorem dX1_arrive_184 : decode cX1_arrive 184 = .ok (.invokevirtual 78, 3) := dk_182 0 78 (dk_at dksX1_arrive_8 2 rfl rfl)
theorem dX1_arrive_187 : decode cX1_arrive 187 = .ok (.ireturn, 1) := dk_172 (dk_at dksX1_arrive_8 5 rfl rfl)
theorem q49 : (Jvm.Cond.initialized "TrunkYards") ∈ lw_all := lw_g (lw_at lw_m1 1 rfl) rfl
theorem q108 : (Jvm.Cond.instantiable "TrunkYards" (11 : Nat)) ∈ lw_all := lw_g (lw_at lw_m1 60 rfl) rfl
theorem q110 : (Jvm.Cond.instanceMethod ({ cls := "TrunkYards", name := "<init>", desc := "()V" } : Jvm.MethodName)) ∈ lw_all := lw_g (lw_at lw_m1 62 rfl) rfl
theorem q111 : (Jvm.Cond.code ({ cls := "TrunkYards", name := "<init>", desc := "()V" } : Jvm.MethodName) prog_1_method_1_code (4 : Nat) (Option.none : Option Jvm.ClassFile.FieldType)) ∈ lw_all := lw_g (lw_at lw_m1 63 rfl) rfl
theorem q112 : (Jvm.Cond.methodLink "TrunkYards" (1 : Nat) ({ cls := "java/lang/Object", name := "<init>", desc := "()V" } : Jvm.MethodName)) ∈ lw_all := lw_g (lw_at lw_m1 64 rfl) rfl
theorem q115 : (Jvm.Cond.classLink "TrunkYards" (7 : Nat) "java/util/ArrayList") ∈ lw_all := lw_g (lw_at lw_m1 67 rfl) rfl
theorem q117 : (Jvm.Cond.methodLink "TrunkYards" (9 : Nat) ({ cls := "java/util/ArrayList", name := "<init>", desc := "()V" } : Jvm.MethodName)) ∈ lw_all := lw_g (lw_at lw_m1 69 rfl) rfl
theorem q148 : (Jvm.Cond.classLink "TrunkYards" (19 : Nat) "[[Z") ∈ lw_all := lw_g (lw_at lw_m1 100 rfl) rfl
theorem q150 : (Jvm.Cond.classLink "TrunkYards" (24 : Nat) "java/util/LinkedHashMap") ∈ lw_all := lw_g (lw_at lw_m1 102 rfl) rfl
theorem q152 : (Jvm.Cond.methodLink "TrunkYards" (26 : Nat) ({ cls := "java/util/LinkedHashMap", name := "<init>", desc := "()V" } : Jvm.MethodName)) ∈ lw_all := lw_g (lw_at lw_m1 104 rfl) rfl
theorem q200 : (Jvm.Cond.classLink "TrunkYards" (47 : Nat) "java/util/LinkedList") ∈ lw_all := lw_g (lw_at lw_m1 152 rfl) rfl
theorem q202 : (Jvm.Cond.methodLink "TrunkYards" (49 : Nat) ({ cls := "java/util/LinkedList", name := "<init>", desc := "()V" } : Jvm.MethodName)) ∈ lw_all := lw_g (lw_at lw_m1 154 rfl) rfl
theorem q222 : (Jvm.Cond.methodLink "TrunkYards" (50 : Nat) ({ cls := "java/util/ArrayList", name := "add", desc := "(Ljava/lang/Object;)Z" } : Jvm.MethodName)) ∈ lw_all := lw_g (lw_at lw_m1 174 rfl) rfl
theorem q254 : (Jvm.Cond.selects "TrunkYards" ({ cls := "java/lang/Object", name := "getClass", desc := "()Ljava/lang/Class;" } : Jvm.MethodName) ({ cls := "java/lang/Object", name := "getClass", desc := "()Ljava/lang/Class;" } : Jvm.MethodName)) ∈ lw_all := lw_g (lw_at lw_m1 206 rfl) rfl
theorem q308 : (Jvm.Cond.classLink "TrunkYards" (54 : Nat) "TrunkYards$Pair") ∈ lw_all := lw_g (lw_at lw_m2 20 rfl) rfl
theorem q310 : (Jvm.Cond.methodLink "TrunkYards" (56 : Nat) ({ cls := "TrunkYards$Pair", name := "<init>", desc := "(II)V" } : Jvm.MethodName)) ∈ lw_all := lw_g (lw_at lw_m2 22 rfl) rfl
theorem q323 : (Jvm.Cond.classLink "TrunkYards" (59 : Nat) "TrunkYards$Trunk") ∈ lw_all := lw_g (lw_at lw_m2 35 rfl) rfl
theorem q326 : (Jvm.Cond.methodLinkNest "TrunkYards" (61 : Nat) ({ cls := "TrunkYards$Trunk", name := "<init>", desc := "()V" } : Jvm.MethodName) "TrunkYards") ∈ lw_tbl := lw_at lw_m2 38 rfl
theorem q332 : (Jvm.Cond.fieldLinkNest "TrunkYards" (297 : Nat) "TrunkYards$Trunk" "call" "LTrunkYards$Call;" "TrunkYards") ∈ lw_tbl := lw_at lw_m2 44 rfl
theorem q334 : (Jvm.Cond.fieldLinkNest "TrunkYards" (294 : Nat) "TrunkYards$Trunk" "isCut" "Z" "TrunkYards") ∈ lw_tbl := lw_at lw_m2 46 rfl
theorem q340 : (Jvm.Cond.methodLink "TrunkYards" (62 : Nat) ({ cls := "java/util/LinkedHashMap", name := "put", desc := "(Ljava/lang/Object;Ljava/lang/Object;)Ljava/lang/Object;" } : Jvm.MethodName)) ∈ lw_all := lw_g (lw_at lw_m2 52 rfl) rfl
theorem q353 : (Jvm.Cond.selects "TrunkYards" ({ cls := "java/lang/Object", name := "hashCode", desc := "()I" } : Jvm.MethodName) ({ cls := "java/lang/Object", name := "hashCode", desc := "()I" } : Jvm.MethodName)) ∈ lw_all := lw_g (lw_at lw_m2 65 rfl) rfl
theorem q1079 : (Jvm.Cond.selects "TrunkYards" ({ cls := "java/lang/Object", name := "equals", desc := "(Ljava/lang/Object;)Z" } : Jvm.MethodName) ({ cls := "java/lang/Object", name := "equals", desc := "(Ljava/lang/Object;)Z" } : Jvm.MethodName)) ∈ lw_all := lw_g (lw_at lw_m5 71 rfl) rfl
theorem q1195 : (Jvm.Cond.classLink "TrunkYards" (66 : Nat) "[LTrunkYards$Trunk;") ∈ lw_all := lw_g (lw_at lw_m5 187 rfl) rfl
theorem q1196 : (Jvm.Cond.fieldLink "TrunkYards" (10 : Nat) "TrunkYards" "tracks" "Ljava/util/ArrayList;") ∈ lw_all := lw_g (lw_at lw_m5 188 rfl) rfl
theorem q1197 : (Jvm.Cond.fieldLink "TrunkYards" (16 : Nat) "TrunkYards" "all" "Ljava/util/ArrayList;") ∈ lw_all := lw_g (lw_at lw_m5 189 rfl) rfl
theorem q1198 : (Jvm.Cond.fieldLink "TrunkYards" (21 : Nat) "TrunkYards" "follows" "[[Z") ∈ lw_all := lw_g (lw_at lw_m5 190 rfl) rfl
theorem q1199 : (Jvm.Cond.fieldLink "TrunkYards" (27 : Nat) "TrunkYards" "trunks" "Ljava/util/LinkedHashMap;") ∈ lw_all := lw_g (lw_at lw_m5 191 rfl) rfl
theorem q1200 : (Jvm.Cond.fieldLink "TrunkYards" (31 : Nat) "TrunkYards" "lines" "[I") ∈ lw_all := lw_g (lw_at lw_m5 192 rfl) rfl
theorem q1201 : (Jvm.Cond.fieldLink "TrunkYards" (35 : Nat) "TrunkYards" "calls" "Ljava/util/ArrayList;") ∈ lw_all := lw_g (lw_at lw_m5 193 rfl) rfl
theorem q1202 : (Jvm.Cond.fieldLink "TrunkYards" (38 : Nat) "TrunkYards" "booked" "Ljava/util/ArrayList;") ∈ lw_all := lw_g (lw_at lw_m5 194 rfl) rfl
theorem q1204 : (Jvm.Cond.fieldLink "TrunkYards" (41 : Nat) "TrunkYards" "sent" "Ljava/util/ArrayList;") ∈ lw_all := lw_g (lw_at lw_m5 196 rfl) rfl
theorem q1206 : (Jvm.Cond.fieldLink "TrunkYards" (44 : Nat) "TrunkYards" "events" "Ljava/util/ArrayList;") ∈ lw_all := lw_g (lw_at lw_m5 198 rfl) rfl
theorem q1207 : (Jvm.Cond.fieldLink "TrunkYards" (230 : Nat) "TrunkYards" "refused" "I") ∈ lw_all := lw_g (lw_at lw_m5 199 rfl) rfl
theorem q1208 : (Jvm.Cond.fieldLink "TrunkYards" (301 : Nat) "TrunkYards" "now" "I") ∈ lw_all := lw_g (lw_at lw_m5 200 rfl) rfl
theorem q1209 : (Jvm.Cond.laysFinal "TrunkYards" "TrunkYards" "tracks" "Ljava/util/ArrayList;") ∈ lw_all := lw_g (lw_at lw_m5 201 rfl) rfl
theorem q1210 : (Jvm.Cond.soleField "TrunkYards" "tracks") ∈ lw_all := lw_g (lw_at lw_m5 202 rfl) rfl
theorem q1211 : (Jvm.Cond.laysFinal "TrunkYards" "TrunkYards" "all" "Ljava/util/ArrayList;") ∈ lw_all := lw_g (lw_at lw_m5 203 rfl) rfl
theorem q1212 : (Jvm.Cond.soleField "TrunkYards" "all") ∈ lw_all := lw_g (lw_at lw_m5 204 rfl) rfl
theorem q1213 : (Jvm.Cond.laysFinal "TrunkYards" "TrunkYards" "follows" "[[Z") ∈ lw_all := lw_g (lw_at lw_m5 205 rfl) rfl
theorem q1214 : (Jvm.Cond.soleField "TrunkYards" "follows") ∈ lw_all := lw_g (lw_at lw_m5 206 rfl) rfl
theorem q1215 : (Jvm.Cond.laysFinal "TrunkYards" "TrunkYards" "trunks" "Ljava/util/LinkedHashMap;") ∈ lw_all := lw_g (lw_at lw_m5 207 rfl) rfl
theorem q1216 : (Jvm.Cond.soleField "TrunkYards" "trunks") ∈ lw_all := lw_g (lw_at lw_m5 208 rfl) rfl
theorem q1217 : (Jvm.Cond.laysFinal "TrunkYards" "TrunkYards" "lines" "[I") ∈ lw_all := lw_g (lw_at lw_m5 209 rfl) rfl
theorem q1218 : (Jvm.Cond.soleField "TrunkYards" "lines") ∈ lw_all := lw_g (lw_at lw_m5 210 rfl) rfl
theorem q1219 : (Jvm.Cond.laysFinal "TrunkYards" "TrunkYards" "calls" "Ljava/util/ArrayList;") ∈ lw_all := lw_g (lw_at lw_m5 211 rfl) rfl
theorem q1220 : (Jvm.Cond.soleField "TrunkYards" "calls") ∈ lw_all := lw_g (lw_at lw_m5 212 rfl) rfl
theorem q1221 : (Jvm.Cond.laysFinal "TrunkYards" "TrunkYards" "booked" "Ljava/util/ArrayList;") ∈ lw_all := lw_g (lw_at lw_m5 213 rfl) rfl
theorem q1222 : (Jvm.Cond.soleField "TrunkYards" "booked") ∈ lw_all := lw_g (lw_at lw_m5 214 rfl) rfl
theorem q1223 : (Jvm.Cond.laysFinal "TrunkYards" "TrunkYards" "sent" "Ljava/util/ArrayList;") ∈ lw_all := lw_g (lw_at lw_m5 215 rfl) rfl
theorem q1224 : (Jvm.Cond.soleField "TrunkYards" "sent") ∈ lw_all := lw_g (lw_at lw_m5 216 rfl) rfl
theorem q1225 : (Jvm.Cond.laysFinal "TrunkYards" "TrunkYards" "events" "Ljava/util/ArrayList;") ∈ lw_all := lw_g (lw_at lw_m5 217 rfl) rfl
theorem q1226 : (Jvm.Cond.soleField "TrunkYards" "events") ∈ lw_all := lw_g (lw_at lw_m5 218 rfl) rfl
theorem q1227 : (Jvm.Cond.lays "TrunkYards" "TrunkYards" "refused" "I") ∈ lw_all := lw_g (lw_at lw_m5 219 rfl) rfl
theorem q1228 : (Jvm.Cond.soleField "TrunkYards" "refused") ∈ lw_all := lw_g (lw_at lw_m5 220 rfl) rfl
theorem q1229 : (Jvm.Cond.lays "TrunkYards" "TrunkYards" "now" "I") ∈ lw_all := lw_g (lw_at lw_m5 221 rfl) rfl
theorem q1230 : (Jvm.Cond.soleField "TrunkYards" "now") ∈ lw_all := lw_g (lw_at lw_m5 222 rfl) rfl
theorem q1231 : (Jvm.Cond.superclass "TrunkYards" "java/lang/Object") ∈ lw_all := lw_g (lw_at lw_m5 223 rfl) rfl
theorem q1233 : (Jvm.Cond.instanceMethod ({ cls := "TrunkYards", name := "busy", desc := "()I" } : Jvm.MethodName)) ∈ lw_all := lw_g (lw_at lw_m5 225 rfl) rfl
theorem q1234 : (Jvm.Cond.selects "TrunkYards" ({ cls := "TrunkYards", name := "busy", desc := "()I" } : Jvm.MethodName) ({ cls := "TrunkYards", name := "busy", desc := "()I" } : Jvm.MethodName)) ∈ lw_all := lw_g (lw_at lw_m5 226 rfl) rfl
theorem q1235 : (Jvm.Cond.code ({ cls := "TrunkYards", name := "busy", desc := "()I" } : Jvm.MethodName) prog_1_method_37_code (1 : Nat) (Option.some Jvm.ClassFile.FieldType.int)) ∈ lw_all := lw_g (lw_at lw_m5 227 rfl) rfl
theorem q1237 : (Jvm.Cond.instanceMethod ({ cls := "TrunkYards", name := "bookings", desc := "()I" } : Jvm.MethodName)) ∈ lw_all := lw_g (lw_at lw_m5 229 rfl) rfl
theorem q1238 : (Jvm.Cond.selects "TrunkYards" ({ cls := "TrunkYards", name := "bookings", desc := "()I" } : Jvm.MethodName) ({ cls := "TrunkYards", name := "bookings", desc := "()I" } : Jvm.MethodName)) ∈ lw_all := lw_g (lw_at lw_m5 230 rfl) rfl
theorem q1239 : (Jvm.Cond.code ({ cls := "TrunkYards", name := "bookings", desc := "()I" } : Jvm.MethodName) prog_1_method_43_code (1 : Nat) (Option.some Jvm.ClassFile.FieldType.int)) ∈ lw_all := lw_g (lw_at lw_m5 231 rfl) rfl
theorem q1240 : (Jvm.Cond.methodLink "TrunkYards" (146 : Nat) ({ cls := "java/util/ArrayList", name := "size", desc := "()I" } : Jvm.MethodName)) ∈ lw_all := lw_g (lw_at lw_m5 232 rfl) rfl
theorem q1245 : (Jvm.Cond.instanceMethod ({ cls := "TrunkYards", name := "trains", desc := "()I" } : Jvm.MethodName)) ∈ lw_all := lw_g (lw_at lw_m5 237 rfl) rfl
theorem q1246 : (Jvm.Cond.selects "TrunkYards" ({ cls := "TrunkYards", name := "trains", desc := "()I" } : Jvm.MethodName) ({ cls := "TrunkYards", name := "trains", desc := "()I" } : Jvm.MethodName)) ∈ lw_all := lw_g (lw_at lw_m5 238 rfl) rfl
theorem q1247 : (Jvm.Cond.code ({ cls := "TrunkYards", name := "trains", desc := "()I" } : Jvm.MethodName) prog_1_method_51_code (1 : Nat) (Option.some Jvm.ClassFile.FieldType.int)) ∈ lw_all := lw_g (lw_at lw_m5 239 rfl) rfl
theorem q1254 : (Jvm.Cond.instanceMethod ({ cls := "TrunkYards", name := "wagon", desc := "(II)I" } : Jvm.MethodName)) ∈ lw_all := lw_g (lw_at lw_m6 6 rfl) rfl
theorem q1255 : (Jvm.Cond.selects "TrunkYards" ({ cls := "TrunkYards", name := "wagon", desc := "(II)I" } : Jvm.MethodName) ({ cls := "TrunkYards", name := "wagon", desc := "(II)I" } : Jvm.MethodName)) ∈ lw_all := lw_g (lw_at lw_m6 7 rfl) rfl
theorem q1256 : (Jvm.Cond.code ({ cls := "TrunkYards", name := "wagon", desc := "(II)I" } : Jvm.MethodName) prog_1_method_17_code (5 : Nat) (Option.some Jvm.ClassFile.FieldType.int)) ∈ lw_all := lw_g (lw_at lw_m6 8 rfl) rfl
theorem q1257 : (Jvm.Cond.methodLink "TrunkYards" (160 : Nat) ({ cls := "TrunkYards", name := "trackOf", desc := "(II)I" } : Jvm.MethodName)) ∈ lw_all := lw_g (lw_at lw_m6 9 rfl) rfl
theorem q1258 : (Jvm.Cond.static ({ cls := "TrunkYards", name := "trackOf", desc := "(II)I" } : Jvm.MethodName)) ∈ lw_all := lw_g (lw_at lw_m6 10 rfl) rfl
theorem q1259 : (Jvm.Cond.code ({ cls := "TrunkYards", name := "trackOf", desc := "(II)I" } : Jvm.MethodName) prog_1_method_10_code (2 : Nat) (Option.some Jvm.ClassFile.FieldType.int)) ∈ lw_all := lw_g (lw_at lw_m6 11 rfl) rfl
theorem q1260 : (Jvm.Cond.methodLink "TrunkYards" (139 : Nat) ({ cls := "TrunkYards", name := "limited", desc := "(III)V" } : Jvm.MethodName)) ∈ lw_all := lw_g (lw_at lw_m6 12 rfl) rfl
theorem q1261 : (Jvm.Cond.static ({ cls := "TrunkYards", name := "limited", desc := "(III)V" } : Jvm.MethodName)) ∈ lw_all := lw_g (lw_at lw_m6 13 rfl) rfl
theorem q1262 : (Jvm.Cond.code ({ cls := "TrunkYards", name := "limited", desc := "(III)V" } : Jvm.MethodName) prog_1_method_7_code (3 : Nat) (Option.none : Option Jvm.ClassFile.FieldType)) ∈ lw_all := lw_g (lw_at lw_m6 14 rfl) rfl
theorem q1263 : (Jvm.Cond.classLink "TrunkYards" (130 : Nat) "java/lang/IllegalArgumentException") ∈ lw_all := lw_g (lw_at lw_m6 15 rfl) rfl
theorem q1264 : (Jvm.Cond.methodLink "TrunkYards" (132 : Nat) ({ cls := "java/lang/IllegalArgumentException", name := "<init>", desc := "()V" } : Jvm.MethodName)) ∈ lw_all := lw_g (lw_at lw_m6 16 rfl) rfl
theorem q1274 : (Jvm.Cond.methodLink "TrunkYards" (74 : Nat) ({ cls := "java/util/ArrayList", name := "get", desc := "(I)Ljava/lang/Object;" } : Jvm.MethodName)) ∈ lw_all := lw_g (lw_at lw_m6 26 rfl) rfl
theorem q1288 : (Jvm.Cond.methodLink "TrunkYards" (78 : Nat) ({ cls := "java/util/LinkedList", name := "size", desc := "()I" } : Jvm.MethodName)) ∈ lw_all := lw_g (lw_at lw_m6 40 rfl) rfl
theorem q1292 : (Jvm.Cond.methodLink "TrunkYards" (154 : Nat) ({ cls := "TrunkYards", name := "allowed", desc := "(Z)V" } : Jvm.MethodName)) ∈ lw_all := lw_g (lw_at lw_m6 44 rfl) rfl
theorem q1293 : (Jvm.Cond.static ({ cls := "TrunkYards", name := "allowed", desc := "(Z)V" } : Jvm.MethodName)) ∈ lw_all := lw_g (lw_at lw_m6 45 rfl) rfl
theorem q1294 : (Jvm.Cond.code ({ cls := "TrunkYards", name := "allowed", desc := "(Z)V" } : Jvm.MethodName) prog_1_method_8_code (1 : Nat) (Option.none : Option Jvm.ClassFile.FieldType)) ∈ lw_all := lw_g (lw_at lw_m6 46 rfl) rfl
theorem q1295 : (Jvm.Cond.classLink "TrunkYards" (133 : Nat) "java/lang/IllegalStateException") ∈ lw_all := lw_g (lw_at lw_m6 47 rfl) rfl
theorem q1304 : (Jvm.Cond.methodLink "TrunkYards" (135 : Nat) ({ cls := "java/lang/IllegalStateException", name := "<init>", desc := "()V" } : Jvm.MethodName)) ∈ lw_all := lw_g (lw_at lw_m6 56 rfl) rfl
theorem q1310 : (Jvm.Cond.classLink "TrunkYards" (69 : Nat) "TrunkYards$Wagon") ∈ lw_all := lw_g (lw_at lw_m6 62 rfl) rfl
theorem q1312 : (Jvm.Cond.methodLink "TrunkYards" (163 : Nat) ({ cls := "TrunkYards$Wagon", name := "<init>", desc := "(II)V" } : Jvm.MethodName)) ∈ lw_all := lw_g (lw_at lw_m6 64 rfl) rfl
theorem q1317 : (Jvm.Cond.fieldLinkNest "TrunkYards" (170 : Nat) "TrunkYards$Wagon" "number" "I" "TrunkYards") ∈ lw_tbl := lw_at lw_m6 69 rfl
theorem q1319 : (Jvm.Cond.fieldLinkNest "TrunkYards" (185 : Nat) "TrunkYards$Wagon" "track" "I" "TrunkYards") ∈ lw_tbl := lw_at lw_m6 71 rfl
theorem q1321 : (Jvm.Cond.fieldLinkNest "TrunkYards" (68 : Nat) "TrunkYards$Wagon" "grain" "I" "TrunkYards") ∈ lw_tbl := lw_at lw_m6 73 rfl
theorem q1323 : (Jvm.Cond.fieldLinkNest "TrunkYards" (89 : Nat) "TrunkYards$Wagon" "booking" "LTrunkYards$Booking;" "TrunkYards") ∈ lw_tbl := lw_at lw_m6 75 rfl
theorem q1333 : (Jvm.Cond.methodLink "TrunkYards" (164 : Nat) ({ cls := "java/util/LinkedList", name := "addLast", desc := "(Ljava/lang/Object;)V" } : Jvm.MethodName)) ∈ lw_all := lw_g (lw_at lw_m6 85 rfl) rfl
theorem q1362 : (Jvm.Cond.classLink "TrunkYards" (168 : Nat) "TrunkYards$Placed") ∈ lw_all := lw_g (lw_at lw_m6 114 rfl) rfl
theorem q1364 : (Jvm.Cond.methodLink "TrunkYards" (173 : Nat) ({ cls := "TrunkYards$Placed", name := "<init>", desc := "(II)V" } : Jvm.MethodName)) ∈ lw_all := lw_g (lw_at lw_m6 116 rfl) rfl
theorem q1381 : (Jvm.Cond.instanceMethod ({ cls := "TrunkYards", name := "shunt", desc := "(IIII)I" } : Jvm.MethodName)) ∈ lw_all := lw_g (lw_at lw_m6 133 rfl) rfl
theorem q1382 : (Jvm.Cond.selects "TrunkYards" ({ cls := "TrunkYards", name := "shunt", desc := "(IIII)I" } : Jvm.MethodName) ({ cls := "TrunkYards", name := "shunt", desc := "(IIII)I" } : Jvm.MethodName)) ∈ lw_all := lw_g (lw_at lw_m6 134 rfl) rfl
theorem q1383 : (Jvm.Cond.code ({ cls := "TrunkYards", name := "shunt", desc := "(IIII)I" } : Jvm.MethodName) prog_1_method_18_code (10 : Nat) (Option.some Jvm.ClassFile.FieldType.int)) ∈ lw_all := lw_g (lw_at lw_m6 135 rfl) rfl
theorem q1384 : (Jvm.Cond.methodLink "TrunkYards" (143 : Nat) ({ cls := "TrunkYards", name := "unlike", desc := "(III)V" } : Jvm.MethodName)) ∈ lw_all := lw_g (lw_at lw_m6 136 rfl) rfl
theorem q1385 : (Jvm.Cond.static ({ cls := "TrunkYards", name := "unlike", desc := "(III)V" } : Jvm.MethodName)) ∈ lw_all := lw_g (lw_at lw_m6 137 rfl) rfl
theorem q1386 : (Jvm.Cond.code ({ cls := "TrunkYards", name := "unlike", desc := "(III)V" } : Jvm.MethodName) prog_1_method_11_code (3 : Nat) (Option.none : Option Jvm.ClassFile.FieldType)) ∈ lw_all := lw_g (lw_at lw_m6 138 rfl) rfl
theorem q1387 : (Jvm.Cond.classLink "TrunkYards" (174 : Nat) "java/util/ArrayDeque") ∈ lw_all := lw_g (lw_at lw_m6 139 rfl) rfl
theorem q1389 : (Jvm.Cond.methodLink "TrunkYards" (176 : Nat) ({ cls := "java/util/ArrayDeque", name := "<init>", desc := "()V" } : Jvm.MethodName)) ∈ lw_all := lw_g (lw_at lw_m6 141 rfl) rfl
theorem q1406 : (Jvm.Cond.methodLink "TrunkYards" (177 : Nat) ({ cls := "java/util/ArrayDeque", name := "size", desc := "()I" } : Jvm.MethodName)) ∈ lw_all := lw_g (lw_at lw_m6 158 rfl) rfl
theorem q1413 : (Jvm.Cond.methodLink "TrunkYards" (178 : Nat) ({ cls := "java/util/LinkedList", name := "removeLast", desc := "()Ljava/lang/Object;" } : Jvm.MethodName)) ∈ lw_all := lw_g (lw_at lw_m6 165 rfl) rfl
theorem q1421 : (Jvm.Cond.methodLink "TrunkYards" (181 : Nat) ({ cls := "java/util/ArrayDeque", name := "addFirst", desc := "(Ljava/lang/Object;)V" } : Jvm.MethodName)) ∈ lw_all := lw_g (lw_at lw_m6 173 rfl) rfl
theorem q1446 : (Jvm.Cond.methodLink "TrunkYards" (184 : Nat) ({ cls := "java/util/ArrayDeque", name := "iterator", desc := "()Ljava/util/Iterator;" } : Jvm.MethodName)) ∈ lw_all := lw_g (lw_at lw_m6 198 rfl) rfl
theorem q1470 : (Jvm.Cond.interfaceEntry "TrunkYards" (112 : Nat)) ∈ lw_tbl := lw_at lw_m6 222 rfl
theorem q1471 : (Jvm.Cond.methodLink "TrunkYards" (112 : Nat) ({ cls := "java/util/Iterator", name := "hasNext", desc := "()Z" } : Jvm.MethodName)) ∈ lw_all := lw_g (lw_at lw_m6 223 rfl) rfl
theorem q1506 : (Jvm.Cond.interfaceEntry "TrunkYards" (117 : Nat)) ∈ lw_tbl := lw_at lw_m7 18 rfl
theorem q1507 : (Jvm.Cond.methodLink "TrunkYards" (117 : Nat) ({ cls := "java/util/Iterator", name := "next", desc := "()Ljava/lang/Object;" } : Jvm.MethodName)) ∈ lw_all := lw_g (lw_at lw_m7 19 rfl) rfl
theorem q1655 : (Jvm.Cond.classLink "TrunkYards" (188 : Nat) "TrunkYards$Shunted") ∈ lw_all := lw_g (lw_at lw_m7 167 rfl) rfl
theorem q1657 : (Jvm.Cond.methodLink "TrunkYards" (190 : Nat) ({ cls := "TrunkYards$Shunted", name := "<init>", desc := "(III)V" } : Jvm.MethodName)) ∈ lw_all := lw_g (lw_at lw_m7 169 rfl) rfl
theorem q1678 : (Jvm.Cond.instanceMethod ({ cls := "TrunkYards", name := "wash", desc := "(I)I" } : Jvm.MethodName)) ∈ lw_all := lw_g (lw_at lw_m7 190 rfl) rfl
theorem q1679 : (Jvm.Cond.selects "TrunkYards" ({ cls := "TrunkYards", name := "wash", desc := "(I)I" } : Jvm.MethodName) ({ cls := "TrunkYards", name := "wash", desc := "(I)I" } : Jvm.MethodName)) ∈ lw_all := lw_g (lw_at lw_m7 191 rfl) rfl
theorem q1680 : (Jvm.Cond.code ({ cls := "TrunkYards", name := "wash", desc := "(I)I" } : Jvm.MethodName) prog_1_method_19_code (4 : Nat) (Option.some Jvm.ClassFile.FieldType.int)) ∈ lw_all := lw_g (lw_at lw_m7 192 rfl) rfl
theorem q1681 : (Jvm.Cond.methodLink "TrunkYards" (192 : Nat) ({ cls := "java/util/LinkedList", name := "isEmpty", desc := "()Z" } : Jvm.MethodName)) ∈ lw_all := lw_g (lw_at lw_m7 193 rfl) rfl
theorem q1688 : (Jvm.Cond.methodLink "TrunkYards" (195 : Nat) ({ cls := "java/util/LinkedList", name := "getLast", desc := "()Ljava/lang/Object;" } : Jvm.MethodName)) ∈ lw_all := lw_g (lw_at lw_m7 200 rfl) rfl
theorem q1696 : (Jvm.Cond.instanceMethod ({ cls := "TrunkYards", name := "follow", desc := "(II)Z" } : Jvm.MethodName)) ∈ lw_all := lw_g (lw_at lw_m7 208 rfl) rfl
theorem q1697 : (Jvm.Cond.selects "TrunkYards" ({ cls := "TrunkYards", name := "follow", desc := "(II)Z" } : Jvm.MethodName) ({ cls := "TrunkYards", name := "follow", desc := "(II)Z" } : Jvm.MethodName)) ∈ lw_all := lw_g (lw_at lw_m7 209 rfl) rfl
theorem q1698 : (Jvm.Cond.code ({ cls := "TrunkYards", name := "follow", desc := "(II)Z" } : Jvm.MethodName) prog_1_method_20_code (3 : Nat) (Option.some Jvm.ClassFile.FieldType.boolean)) ∈ lw_all := lw_g (lw_at lw_m7 210 rfl) rfl
theorem q1703 : (Jvm.Cond.instanceMethod ({ cls := "TrunkYards", name := "on", desc := "(II)I" } : Jvm.MethodName)) ∈ lw_all := lw_g (lw_at lw_m7 215 rfl) rfl
theorem q1704 : (Jvm.Cond.selects "TrunkYards" ({ cls := "TrunkYards", name := "on", desc := "(II)I" } : Jvm.MethodName) ({ cls := "TrunkYards", name := "on", desc := "(II)I" } : Jvm.MethodName)) ∈ lw_all := lw_g (lw_at lw_m7 216 rfl) rfl
theorem q1705 : (Jvm.Cond.code ({ cls := "TrunkYards", name := "on", desc := "(II)I" } : Jvm.MethodName) prog_1_method_21_code (3 : Nat) (Option.some Jvm.ClassFile.FieldType.int)) ∈ lw_all := lw_g (lw_at lw_m7 217 rfl) rfl
theorem q1726 : (Jvm.Cond.instanceMethod ({ cls := "TrunkYards", name := "at", desc := "(III)I" } : Jvm.MethodName)) ∈ lw_all := lw_g (lw_at lw_m7 238 rfl) rfl
theorem q1727 : (Jvm.Cond.selects "TrunkYards" ({ cls := "TrunkYards", name := "at", desc := "(III)I" } : Jvm.MethodName) ({ cls := "TrunkYards", name := "at", desc := "(III)I" } : Jvm.MethodName)) ∈ lw_all := lw_g (lw_at lw_m7 239 rfl) rfl
theorem q1728 : (Jvm.Cond.code ({ cls := "TrunkYards", name := "at", desc := "(III)I" } : Jvm.MethodName) prog_1_method_22_code (5 : Nat) (Option.some Jvm.ClassFile.FieldType.int)) ∈ lw_all := lw_g (lw_at lw_m8 0 rfl) rfl
theorem q1729 : (Jvm.Cond.methodLink "TrunkYards" (147 : Nat) ({ cls := "TrunkYards", name := "there", desc := "(II)V" } : Jvm.MethodName)) ∈ lw_all := lw_g (lw_at lw_m8 1 rfl) rfl
theorem q1730 : (Jvm.Cond.static ({ cls := "TrunkYards", name := "there", desc := "(II)V" } : Jvm.MethodName)) ∈ lw_all := lw_g (lw_at lw_m8 2 rfl) rfl
theorem q1731 : (Jvm.Cond.code ({ cls := "TrunkYards", name := "there", desc := "(II)V" } : Jvm.MethodName) prog_1_method_9_code (2 : Nat) (Option.none : Option Jvm.ClassFile.FieldType)) ∈ lw_all := lw_g (lw_at lw_m8 3 rfl) rfl
theorem q1732 : (Jvm.Cond.classLink "TrunkYards" (136 : Nat) "java/lang/IndexOutOfBoundsException") ∈ lw_all := lw_g (lw_at lw_m8 4 rfl) rfl
theorem q1733 : (Jvm.Cond.methodLink "TrunkYards" (138 : Nat) ({ cls := "java/lang/IndexOutOfBoundsException", name := "<init>", desc := "()V" } : Jvm.MethodName)) ∈ lw_all := lw_g (lw_at lw_m8 5 rfl) rfl
theorem q1737 : (Jvm.Cond.methodLink "TrunkYards" (88 : Nat) ({ cls := "java/util/LinkedList", name := "get", desc := "(I)Ljava/lang/Object;" } : Jvm.MethodName)) ∈ lw_all := lw_g (lw_at lw_m8 9 rfl) rfl
theorem q1742 : (Jvm.Cond.instanceMethod ({ cls := "TrunkYards", name := "atByReplay", desc := "(III)I" } : Jvm.MethodName)) ∈ lw_all := lw_g (lw_at lw_m8 14 rfl) rfl
theorem q1743 : (Jvm.Cond.selects "TrunkYards" ({ cls := "TrunkYards", name := "atByReplay", desc := "(III)I" } : Jvm.MethodName) ({ cls := "TrunkYards", name := "atByReplay", desc := "(III)I" } : Jvm.MethodName)) ∈ lw_all := lw_g (lw_at lw_m8 15 rfl) rfl
theorem q1744 : (Jvm.Cond.code ({ cls := "TrunkYards", name := "atByReplay", desc := "(III)I" } : Jvm.MethodName) prog_1_method_23_code (6 : Nat) (Option.some Jvm.ClassFile.FieldType.int)) ∈ lw_all := lw_g (lw_at lw_m8 16 rfl) rfl
theorem q1745 : (Jvm.Cond.classLink "TrunkYards" (198 : Nat) "TrunkYards$Replay") ∈ lw_all := lw_g (lw_at lw_m8 17 rfl) rfl
theorem q1747 : (Jvm.Cond.methodLink "TrunkYards" (200 : Nat) ({ cls := "TrunkYards$Replay", name := "<init>", desc := "(LTrunkYards;)V" } : Jvm.MethodName)) ∈ lw_all := lw_g (lw_at lw_m8 19 rfl) rfl
theorem q1767 : (Jvm.Cond.fieldLinkNest "TrunkYards" (206 : Nat) "TrunkYards$Replay" "rows" "[[I" "TrunkYards") ∈ lw_tbl := lw_at lw_m8 39 rfl
theorem q1769 : (Jvm.Cond.fieldLinkNest "TrunkYards" (203 : Nat) "TrunkYards$Replay" "sizes" "[I" "TrunkYards") ∈ lw_tbl := lw_at lw_m8 41 rfl
theorem q1788 : (Jvm.Cond.instanceMethod ({ cls := "TrunkYards", name := "where", desc := "(I)I" } : Jvm.MethodName)) ∈ lw_all := lw_g (lw_at lw_m8 60 rfl) rfl
theorem q1789 : (Jvm.Cond.selects "TrunkYards" ({ cls := "TrunkYards", name := "where", desc := "(I)I" } : Jvm.MethodName) ({ cls := "TrunkYards", name := "where", desc := "(I)I" } : Jvm.MethodName)) ∈ lw_all := lw_g (lw_at lw_m8 61 rfl) rfl
theorem q1790 : (Jvm.Cond.code ({ cls := "TrunkYards", name := "where", desc := "(I)I" } : Jvm.MethodName) prog_1_method_24_code (3 : Nat) (Option.some Jvm.ClassFile.FieldType.int)) ∈ lw_all := lw_g (lw_at lw_m8 62 rfl) rfl
theorem q1791 : (Jvm.Cond.methodLink "TrunkYards" (210 : Nat) ({ cls := "TrunkYards", name := "wagonAt", desc := "(I)LTrunkYards$Wagon;" } : Jvm.MethodName)) ∈ lw_all := lw_g (lw_at lw_m8 63 rfl) rfl
theorem q1792 : (Jvm.Cond.privateMethod ({ cls := "TrunkYards", name := "wagonAt", desc := "(I)LTrunkYards$Wagon;" } : Jvm.MethodName)) ∈ lw_tbl := lw_at lw_m8 64 rfl
theorem q1793 : (Jvm.Cond.instanceMethod ({ cls := "TrunkYards", name := "wagonAt", desc := "(I)LTrunkYards$Wagon;" } : Jvm.MethodName)) ∈ lw_all := lw_g (lw_at lw_m8 65 rfl) rfl
theorem q1794 : (Jvm.Cond.code ({ cls := "TrunkYards", name := "wagonAt", desc := "(I)LTrunkYards$Wagon;" } : Jvm.MethodName) prog_1_method_16_code (2 : Nat) (Option.some (Jvm.ClassFile.FieldType.object "TrunkYards$Wagon"))) ∈ lw_all := lw_g (lw_at lw_m8 66 rfl) rfl
theorem q1799 : (Jvm.Cond.instanceMethod ({ cls := "TrunkYards", name := "carried", desc := "(I)I" } : Jvm.MethodName)) ∈ lw_all := lw_g (lw_at lw_m8 71 rfl) rfl
theorem q1800 : (Jvm.Cond.selects "TrunkYards" ({ cls := "TrunkYards", name := "carried", desc := "(I)I" } : Jvm.MethodName) ({ cls := "TrunkYards", name := "carried", desc := "(I)I" } : Jvm.MethodName)) ∈ lw_all := lw_g (lw_at lw_m8 72 rfl) rfl
theorem q1801 : (Jvm.Cond.code ({ cls := "TrunkYards", name := "carried", desc := "(I)I" } : Jvm.MethodName) prog_1_method_25_code (2 : Nat) (Option.some Jvm.ClassFile.FieldType.int)) ∈ lw_all := lw_g (lw_at lw_m8 73 rfl) rfl
theorem q1806 : (Jvm.Cond.instanceMethod ({ cls := "TrunkYards", name := "promised", desc := "(I)I" } : Jvm.MethodName)) ∈ lw_all := lw_g (lw_at lw_m8 78 rfl) rfl
theorem q1807 : (Jvm.Cond.selects "TrunkYards" ({ cls := "TrunkYards", name := "promised", desc := "(I)I" } : Jvm.MethodName) ({ cls := "TrunkYards", name := "promised", desc := "(I)I" } : Jvm.MethodName)) ∈ lw_all := lw_g (lw_at lw_m8 79 rfl) rfl
theorem q1808 : (Jvm.Cond.code ({ cls := "TrunkYards", name := "promised", desc := "(I)I" } : Jvm.MethodName) prog_1_method_26_code (3 : Nat) (Option.some Jvm.ClassFile.FieldType.int)) ∈ lw_all := lw_g (lw_at lw_m8 80 rfl) rfl
theorem q1813 : (Jvm.Cond.instanceMethod ({ cls := "TrunkYards", name := "call", desc := "(II)I" } : Jvm.MethodName)) ∈ lw_all := lw_g (lw_at lw_m8 85 rfl) rfl
theorem q1814 : (Jvm.Cond.selects "TrunkYards" ({ cls := "TrunkYards", name := "call", desc := "(II)I" } : Jvm.MethodName) ({ cls := "TrunkYards", name := "call", desc := "(II)I" } : Jvm.MethodName)) ∈ lw_all := lw_g (lw_at lw_m8 86 rfl) rfl
theorem q1815 : (Jvm.Cond.code ({ cls := "TrunkYards", name := "call", desc := "(II)I" } : Jvm.MethodName) prog_1_method_28_code (4 : Nat) (Option.some Jvm.ClassFile.FieldType.int)) ∈ lw_all := lw_g (lw_at lw_m8 87 rfl) rfl
theorem q1816 : (Jvm.Cond.methodLink "TrunkYards" (219 : Nat) ({ cls := "TrunkYards", name := "callNow", desc := "(I)I" } : Jvm.MethodName)) ∈ lw_all := lw_g (lw_at lw_m8 88 rfl) rfl
theorem q1817 : (Jvm.Cond.privateMethod ({ cls := "TrunkYards", name := "callNow", desc := "(I)I" } : Jvm.MethodName)) ∈ lw_tbl := lw_at lw_m8 89 rfl
theorem q1818 : (Jvm.Cond.instanceMethod ({ cls := "TrunkYards", name := "callNow", desc := "(I)I" } : Jvm.MethodName)) ∈ lw_all := lw_g (lw_at lw_m8 90 rfl) rfl
theorem q1819 : (Jvm.Cond.code ({ cls := "TrunkYards", name := "callNow", desc := "(I)I" } : Jvm.MethodName) prog_1_method_27_code (4 : Nat) (Option.some Jvm.ClassFile.FieldType.int)) ∈ lw_all := lw_g (lw_at lw_m8 91 rfl) rfl
theorem q1820 : (Jvm.Cond.methodLink "TrunkYards" (108 : Nat) ({ cls := "java/util/ArrayList", name := "iterator", desc := "()Ljava/util/Iterator;" } : Jvm.MethodName)) ∈ lw_all := lw_g (lw_at lw_m8 92 rfl) rfl
theorem q1845 : (Jvm.Cond.classLink "TrunkYards" (121 : Nat) "TrunkYards$Call") ∈ lw_all := lw_g (lw_at lw_m8 117 rfl) rfl
theorem q1846 : (Jvm.Cond.methodLink "TrunkYards" (223 : Nat) ({ cls := "TrunkYards", name := "inUse", desc := "(I)I" } : Jvm.MethodName)) ∈ lw_all := lw_g (lw_at lw_m8 118 rfl) rfl
theorem q1847 : (Jvm.Cond.privateMethod ({ cls := "TrunkYards", name := "inUse", desc := "(I)I" } : Jvm.MethodName)) ∈ lw_tbl := lw_at lw_m8 119 rfl
theorem q1848 : (Jvm.Cond.instanceMethod ({ cls := "TrunkYards", name := "inUse", desc := "(I)I" } : Jvm.MethodName)) ∈ lw_all := lw_g (lw_at lw_m8 120 rfl) rfl
theorem q1849 : (Jvm.Cond.code ({ cls := "TrunkYards", name := "inUse", desc := "(I)I" } : Jvm.MethodName) prog_1_method_6_code (5 : Nat) (Option.some Jvm.ClassFile.FieldType.int)) ∈ lw_all := lw_g (lw_at lw_m8 121 rfl) rfl
theorem q1850 : (Jvm.Cond.methodLink "TrunkYards" (226 : Nat) ({ cls := "TrunkYards", name := "found", desc := "(IILjava/util/ArrayList;)Ljava/util/ArrayList;" } : Jvm.MethodName)) ∈ lw_all := lw_g (lw_at lw_m8 122 rfl) rfl
theorem q1851 : (Jvm.Cond.privateMethod ({ cls := "TrunkYards", name := "found", desc := "(IILjava/util/ArrayList;)Ljava/util/ArrayList;" } : Jvm.MethodName)) ∈ lw_tbl := lw_at lw_m8 123 rfl
theorem q1852 : (Jvm.Cond.instanceMethod ({ cls := "TrunkYards", name := "found", desc := "(IILjava/util/ArrayList;)Ljava/util/ArrayList;" } : Jvm.MethodName)) ∈ lw_all := lw_g (lw_at lw_m8 124 rfl) rfl
theorem q1853 : (Jvm.Cond.code ({ cls := "TrunkYards", name := "found", desc := "(IILjava/util/ArrayList;)Ljava/util/ArrayList;" } : Jvm.MethodName) prog_1_method_5_code (8 : Nat) (Option.some (Jvm.ClassFile.FieldType.object "java/util/ArrayList"))) ∈ lw_all := lw_g (lw_at lw_m8 125 rfl) rfl
theorem q1854 : (Jvm.Cond.methodLink "TrunkYards" (104 : Nat) ({ cls := "TrunkYards", name := "freeBetween", desc := "(II)LTrunkYards$Trunk;" } : Jvm.MethodName)) ∈ lw_all := lw_g (lw_at lw_m8 126 rfl) rfl
theorem q1855 : (Jvm.Cond.privateMethod ({ cls := "TrunkYards", name := "freeBetween", desc := "(II)LTrunkYards$Trunk;" } : Jvm.MethodName)) ∈ lw_tbl := lw_at lw_m8 127 rfl
theorem q1856 : (Jvm.Cond.instanceMethod ({ cls := "TrunkYards", name := "freeBetween", desc := "(II)LTrunkYards$Trunk;" } : Jvm.MethodName)) ∈ lw_all := lw_g (lw_at lw_m8 128 rfl) rfl
theorem q1857 : (Jvm.Cond.code ({ cls := "TrunkYards", name := "freeBetween", desc := "(II)LTrunkYards$Trunk;" } : Jvm.MethodName) prog_1_method_4_code (7 : Nat) (Option.some (Jvm.ClassFile.FieldType.object "TrunkYards$Trunk"))) ∈ lw_all := lw_g (lw_at lw_m8 129 rfl) rfl
theorem q1858 : (Jvm.Cond.methodLink "TrunkYards" (97 : Nat) ({ cls := "java/util/LinkedHashMap", name := "get", desc := "(Ljava/lang/Object;)Ljava/lang/Object;" } : Jvm.MethodName)) ∈ lw_all := lw_g (lw_at lw_m8 130 rfl) rfl
theorem q1873 : (Jvm.Cond.methodLink "TrunkYards" (100 : Nat) ({ cls := "TrunkYards$Trunk", name := "isFree", desc := "()Z" } : Jvm.MethodName)) ∈ lw_all := lw_g (lw_at lw_m8 145 rfl) rfl
theorem q1878 : (Jvm.Cond.methodLink "TrunkYards" (233 : Nat) ({ cls := "TrunkYards$Call", name := "<init>", desc := "(IIILjava/util/ArrayList;)V" } : Jvm.MethodName)) ∈ lw_all := lw_g (lw_at lw_m8 150 rfl) rfl
theorem q1889 : (Jvm.Cond.fieldLinkNest "TrunkYards" (218 : Nat) "TrunkYards$Call" "number" "I" "TrunkYards") ∈ lw_tbl := lw_at lw_m8 161 rfl
theorem q1891 : (Jvm.Cond.fieldLinkNest "TrunkYards" (215 : Nat) "TrunkYards$Call" "customer" "I" "TrunkYards") ∈ lw_tbl := lw_at lw_m8 163 rfl
theorem q1893 : (Jvm.Cond.fieldLinkNest "TrunkYards" (127 : Nat) "TrunkYards$Call" "yard" "I" "TrunkYards") ∈ lw_tbl := lw_at lw_m8 165 rfl
theorem q1895 : (Jvm.Cond.fieldLinkNest "TrunkYards" (287 : Nat) "TrunkYards$Call" "over" "Ljava/util/ArrayList;" "TrunkYards") ∈ lw_tbl := lw_at lw_m8 167 rfl
theorem q1897 : (Jvm.Cond.fieldLinkNest "TrunkYards" (236 : Nat) "TrunkYards$Call" "open" "LTrunkYards$Booking;" "TrunkYards") ∈ lw_tbl := lw_at lw_m8 169 rfl
theorem q1899 : (Jvm.Cond.fieldLinkNest "TrunkYards" (123 : Nat) "TrunkYards$Call" "goesOn" "Z" "TrunkYards") ∈ lw_tbl := lw_at lw_m8 171 rfl
theorem q1917 : (Jvm.Cond.instanceMethod ({ cls := "TrunkYards", name := "ask", desc := "(II)I" } : Jvm.MethodName)) ∈ lw_all := lw_g (lw_at lw_m8 189 rfl) rfl
theorem q1918 : (Jvm.Cond.selects "TrunkYards" ({ cls := "TrunkYards", name := "ask", desc := "(II)I" } : Jvm.MethodName) ({ cls := "TrunkYards", name := "ask", desc := "(II)I" } : Jvm.MethodName)) ∈ lw_all := lw_g (lw_at lw_m8 190 rfl) rfl
theorem q1919 : (Jvm.Cond.code ({ cls := "TrunkYards", name := "ask", desc := "(II)I" } : Jvm.MethodName) prog_1_method_29_code (5 : Nat) (Option.some Jvm.ClassFile.FieldType.int)) ∈ lw_all := lw_g (lw_at lw_m8 191 rfl) rfl
theorem q1920 : (Jvm.Cond.methodLink "TrunkYards" (150 : Nat) ({ cls := "TrunkYards", name := "named", desc := "(I)LTrunkYards$Call;" } : Jvm.MethodName)) ∈ lw_all := lw_g (lw_at lw_m8 192 rfl) rfl
theorem q1921 : (Jvm.Cond.privateMethod ({ cls := "TrunkYards", name := "named", desc := "(I)LTrunkYards$Call;" } : Jvm.MethodName)) ∈ lw_tbl := lw_at lw_m8 193 rfl
theorem q1922 : (Jvm.Cond.instanceMethod ({ cls := "TrunkYards", name := "named", desc := "(I)LTrunkYards$Call;" } : Jvm.MethodName)) ∈ lw_all := lw_g (lw_at lw_m8 194 rfl) rfl
theorem q1923 : (Jvm.Cond.code ({ cls := "TrunkYards", name := "named", desc := "(I)LTrunkYards$Call;" } : Jvm.MethodName) prog_1_method_13_code (2 : Nat) (Option.some (Jvm.ClassFile.FieldType.object "TrunkYards$Call"))) ∈ lw_all := lw_g (lw_at lw_m8 195 rfl) rfl
theorem q1924 : (Jvm.Cond.methodLink "TrunkYards" (240 : Nat) ({ cls := "TrunkYards", name := "found", desc := "(II)LTrunkYards$Wagon;" } : Jvm.MethodName)) ∈ lw_all := lw_g (lw_at lw_m8 196 rfl) rfl
theorem q1925 : (Jvm.Cond.privateMethod ({ cls := "TrunkYards", name := "found", desc := "(II)LTrunkYards$Wagon;" } : Jvm.MethodName)) ∈ lw_tbl := lw_at lw_m8 197 rfl
theorem q1926 : (Jvm.Cond.instanceMethod ({ cls := "TrunkYards", name := "found", desc := "(II)LTrunkYards$Wagon;" } : Jvm.MethodName)) ∈ lw_all := lw_g (lw_at lw_m8 198 rfl) rfl
theorem q1927 : (Jvm.Cond.code ({ cls := "TrunkYards", name := "found", desc := "(II)LTrunkYards$Wagon;" } : Jvm.MethodName) prog_1_method_3_code (9 : Nat) (Option.some (Jvm.ClassFile.FieldType.object "TrunkYards$Wagon"))) ∈ lw_all := lw_g (lw_at lw_m8 199 rfl) rfl
theorem q1928 : (Jvm.Cond.methodLink "TrunkYards" (82 : Nat) ({ cls := "java/lang/Math", name := "min", desc := "(II)I" } : Jvm.MethodName)) ∈ lw_all := lw_g (lw_at lw_m8 200 rfl) rfl
theorem q1929 : (Jvm.Cond.methodLink "TrunkYards" (93 : Nat) ({ cls := "TrunkYards", name := "fits", desc := "(LTrunkYards$Wagon;I)Z" } : Jvm.MethodName)) ∈ lw_all := lw_g (lw_at lw_m8 201 rfl) rfl
theorem q1930 : (Jvm.Cond.privateMethod ({ cls := "TrunkYards", name := "fits", desc := "(LTrunkYards$Wagon;I)Z" } : Jvm.MethodName)) ∈ lw_tbl := lw_at lw_m8 202 rfl
theorem q1931 : (Jvm.Cond.instanceMethod ({ cls := "TrunkYards", name := "fits", desc := "(LTrunkYards$Wagon;I)Z" } : Jvm.MethodName)) ∈ lw_all := lw_g (lw_at lw_m8 203 rfl) rfl
theorem q1932 : (Jvm.Cond.code ({ cls := "TrunkYards", name := "fits", desc := "(LTrunkYards$Wagon;I)Z" } : Jvm.MethodName) prog_1_method_2_code (3 : Nat) (Option.some Jvm.ClassFile.FieldType.boolean)) ∈ lw_all := lw_g (lw_at lw_m8 204 rfl) rfl
theorem q1933 : (Jvm.Cond.classLink "TrunkYards" (158 : Nat) "TrunkYards$Booking") ∈ lw_all := lw_g (lw_at lw_m8 205 rfl) rfl
theorem q1935 : (Jvm.Cond.methodLink "TrunkYards" (243 : Nat) ({ cls := "TrunkYards$Booking", name := "<init>", desc := "(IIII)V" } : Jvm.MethodName)) ∈ lw_all := lw_g (lw_at lw_m8 207 rfl) rfl
theorem q1944 : (Jvm.Cond.fieldLinkNest "TrunkYards" (214 : Nat) "TrunkYards$Booking" "number" "I" "TrunkYards") ∈ lw_tbl := lw_at lw_m8 216 rfl
theorem q1946 : (Jvm.Cond.fieldLinkNest "TrunkYards" (262 : Nat) "TrunkYards$Booking" "customer" "I" "TrunkYards") ∈ lw_tbl := lw_at lw_m8 218 rfl
theorem q1948 : (Jvm.Cond.fieldLinkNest "TrunkYards" (263 : Nat) "TrunkYards$Booking" "yard" "I" "TrunkYards") ∈ lw_tbl := lw_at lw_m8 220 rfl
theorem q1950 : (Jvm.Cond.fieldLinkNest "TrunkYards" (239 : Nat) "TrunkYards$Booking" "grain" "I" "TrunkYards") ∈ lw_tbl := lw_at lw_m8 222 rfl
theorem q1952 : (Jvm.Cond.fieldLinkNest "TrunkYards" (246 : Nat) "TrunkYards$Booking" "wagons" "Ljava/util/ArrayList;" "TrunkYards") ∈ lw_tbl := lw_at lw_m8 224 rfl
theorem q1954 : (Jvm.Cond.fieldLinkNest "TrunkYards" (268 : Nat) "TrunkYards$Booking" "state" "LTrunkYards$State;" "TrunkYards") ∈ lw_tbl := lw_at lw_m8 226 rfl
theorem q1955 : (Jvm.Cond.fieldLinkNest "TrunkYards" (304 : Nat) "TrunkYards$Booking" "deadline" "I" "TrunkYards") ∈ lw_tbl := lw_at lw_m8 227 rfl
theorem q1975 : (Jvm.Cond.instanceMethod ({ cls := "TrunkYards", name := "confirm", desc := "(I)I" } : Jvm.MethodName)) ∈ lw_all := lw_g (lw_at lw_m9 7 rfl) rfl
theorem q1976 : (Jvm.Cond.selects "TrunkYards" ({ cls := "TrunkYards", name := "confirm", desc := "(I)I" } : Jvm.MethodName) ({ cls := "TrunkYards", name := "confirm", desc := "(I)I" } : Jvm.MethodName)) ∈ lw_all := lw_g (lw_at lw_m9 8 rfl) rfl
theorem q1977 : (Jvm.Cond.code ({ cls := "TrunkYards", name := "confirm", desc := "(I)I" } : Jvm.MethodName) prog_1_method_30_code (5 : Nat) (Option.some Jvm.ClassFile.FieldType.int)) ∈ lw_all := lw_g (lw_at lw_m9 9 rfl) rfl
theorem q1978 : (Jvm.Cond.methodLink "TrunkYards" (249 : Nat) ({ cls := "TrunkYards", name := "goingOn", desc := "(I)LTrunkYards$Call;" } : Jvm.MethodName)) ∈ lw_all := lw_g (lw_at lw_m9 10 rfl) rfl
theorem q1979 : (Jvm.Cond.privateMethod ({ cls := "TrunkYards", name := "goingOn", desc := "(I)LTrunkYards$Call;" } : Jvm.MethodName)) ∈ lw_tbl := lw_at lw_m9 11 rfl
theorem q1980 : (Jvm.Cond.instanceMethod ({ cls := "TrunkYards", name := "goingOn", desc := "(I)LTrunkYards$Call;" } : Jvm.MethodName)) ∈ lw_all := lw_g (lw_at lw_m9 12 rfl) rfl
theorem q1981 : (Jvm.Cond.code ({ cls := "TrunkYards", name := "goingOn", desc := "(I)LTrunkYards$Call;" } : Jvm.MethodName) prog_1_method_14_code (3 : Nat) (Option.some (Jvm.ClassFile.FieldType.object "TrunkYards$Call"))) ∈ lw_all := lw_g (lw_at lw_m9 13 rfl) rfl
theorem q1982 : (Jvm.Cond.fieldLink "TrunkYards" (252 : Nat) "TrunkYards$State" "FIRM" "LTrunkYards$State;") ∈ lw_all := lw_g (lw_at lw_m9 14 rfl) rfl
theorem q1984 : (Jvm.Cond.methodLink "TrunkYards" (258 : Nat) ({ cls := "TrunkYards$Booking", name := "become", desc := "(LTrunkYards$State;)I" } : Jvm.MethodName)) ∈ lw_all := lw_g (lw_at lw_m9 16 rfl) rfl
theorem q2011 : (Jvm.Cond.instanceMethod ({ cls := "TrunkYards", name := "resume", desc := "(II)I" } : Jvm.MethodName)) ∈ lw_all := lw_g (lw_at lw_m9 43 rfl) rfl
theorem q2012 : (Jvm.Cond.selects "TrunkYards" ({ cls := "TrunkYards", name := "resume", desc := "(II)I" } : Jvm.MethodName) ({ cls := "TrunkYards", name := "resume", desc := "(II)I" } : Jvm.MethodName)) ∈ lw_all := lw_g (lw_at lw_m9 44 rfl) rfl
theorem q2013 : (Jvm.Cond.code ({ cls := "TrunkYards", name := "resume", desc := "(II)I" } : Jvm.MethodName) prog_1_method_32_code (5 : Nat) (Option.some Jvm.ClassFile.FieldType.int)) ∈ lw_all := lw_g (lw_at lw_m9 45 rfl) rfl
theorem q2014 : (Jvm.Cond.methodLink "TrunkYards" (264 : Nat) ({ cls := "TrunkYards", name := "bookingOf", desc := "(I)LTrunkYards$Booking;" } : Jvm.MethodName)) ∈ lw_all := lw_g (lw_at lw_m9 46 rfl) rfl
theorem q2015 : (Jvm.Cond.privateMethod ({ cls := "TrunkYards", name := "bookingOf", desc := "(I)LTrunkYards$Booking;" } : Jvm.MethodName)) ∈ lw_tbl := lw_at lw_m9 47 rfl
theorem q2016 : (Jvm.Cond.instanceMethod ({ cls := "TrunkYards", name := "bookingOf", desc := "(I)LTrunkYards$Booking;" } : Jvm.MethodName)) ∈ lw_all := lw_g (lw_at lw_m9 48 rfl) rfl
theorem q2017 : (Jvm.Cond.code ({ cls := "TrunkYards", name := "bookingOf", desc := "(I)LTrunkYards$Booking;" } : Jvm.MethodName) prog_1_method_15_code (2 : Nat) (Option.some (Jvm.ClassFile.FieldType.object "TrunkYards$Booking"))) ∈ lw_all := lw_g (lw_at lw_m9 49 rfl) rfl
theorem q2018 : (Jvm.Cond.fieldLink "TrunkYards" (271 : Nat) "TrunkYards$State" "HALF" "LTrunkYards$State;") ∈ lw_all := lw_g (lw_at lw_m9 50 rfl) rfl
theorem q2020 : (Jvm.Cond.methodLink "TrunkYards" (274 : Nat) ({ cls := "TrunkYards", name := "isFor", desc := "(LTrunkYards$Booking;LTrunkYards$Call;)Z" } : Jvm.MethodName)) ∈ lw_all := lw_g (lw_at lw_m9 52 rfl) rfl
theorem q2021 : (Jvm.Cond.static ({ cls := "TrunkYards", name := "isFor", desc := "(LTrunkYards$Booking;LTrunkYards$Call;)Z" } : Jvm.MethodName)) ∈ lw_all := lw_g (lw_at lw_m9 53 rfl) rfl
theorem q2022 : (Jvm.Cond.code ({ cls := "TrunkYards", name := "isFor", desc := "(LTrunkYards$Booking;LTrunkYards$Call;)Z" } : Jvm.MethodName) prog_1_method_31_code (2 : Nat) (Option.some Jvm.ClassFile.FieldType.boolean)) ∈ lw_all := lw_g (lw_at lw_m9 54 rfl) rfl
theorem q2023 : (Jvm.Cond.fieldLink "TrunkYards" (278 : Nat) "TrunkYards$State" "OPEN" "LTrunkYards$State;") ∈ lw_all := lw_g (lw_at lw_m9 55 rfl) rfl
theorem q2028 : (Jvm.Cond.instanceMethod ({ cls := "TrunkYards", name := "cancel", desc := "(II)I" } : Jvm.MethodName)) ∈ lw_all := lw_g (lw_at lw_m9 60 rfl) rfl
theorem q2029 : (Jvm.Cond.selects "TrunkYards" ({ cls := "TrunkYards", name := "cancel", desc := "(II)I" } : Jvm.MethodName) ({ cls := "TrunkYards", name := "cancel", desc := "(II)I" } : Jvm.MethodName)) ∈ lw_all := lw_g (lw_at lw_m9 61 rfl) rfl
theorem q2030 : (Jvm.Cond.code ({ cls := "TrunkYards", name := "cancel", desc := "(II)I" } : Jvm.MethodName) prog_1_method_33_code (5 : Nat) (Option.some Jvm.ClassFile.FieldType.int)) ∈ lw_all := lw_g (lw_at lw_m9 62 rfl) rfl
theorem q2031 : (Jvm.Cond.fieldLink "TrunkYards" (281 : Nat) "TrunkYards$State" "VOID" "LTrunkYards$State;") ∈ lw_all := lw_g (lw_at lw_m9 63 rfl) rfl
theorem q2037 : (Jvm.Cond.instanceMethod ({ cls := "TrunkYards", name := "hangUp", desc := "(I)I" } : Jvm.MethodName)) ∈ lw_all := lw_g (lw_at lw_m9 69 rfl) rfl
theorem q2038 : (Jvm.Cond.selects "TrunkYards" ({ cls := "TrunkYards", name := "hangUp", desc := "(I)I" } : Jvm.MethodName) ({ cls := "TrunkYards", name := "hangUp", desc := "(I)I" } : Jvm.MethodName)) ∈ lw_all := lw_g (lw_at lw_m9 70 rfl) rfl
theorem q2039 : (Jvm.Cond.code ({ cls := "TrunkYards", name := "hangUp", desc := "(I)I" } : Jvm.MethodName) prog_1_method_34_code (4 : Nat) (Option.some Jvm.ClassFile.FieldType.int)) ∈ lw_all := lw_g (lw_at lw_m9 71 rfl) rfl
theorem q2040 : (Jvm.Cond.methodLink "TrunkYards" (284 : Nat) ({ cls := "TrunkYards$Call", name := "end", desc := "()V" } : Jvm.MethodName)) ∈ lw_all := lw_g (lw_at lw_m9 72 rfl) rfl
theorem q2048 : (Jvm.Cond.instanceMethod ({ cls := "TrunkYards", name := "callOf", desc := "(I)I" } : Jvm.MethodName)) ∈ lw_all := lw_g (lw_at lw_m9 80 rfl) rfl
theorem q2049 : (Jvm.Cond.selects "TrunkYards" ({ cls := "TrunkYards", name := "callOf", desc := "(I)I" } : Jvm.MethodName) ({ cls := "TrunkYards", name := "callOf", desc := "(I)I" } : Jvm.MethodName)) ∈ lw_all := lw_g (lw_at lw_m9 81 rfl) rfl
theorem q2050 : (Jvm.Cond.code ({ cls := "TrunkYards", name := "callOf", desc := "(I)I" } : Jvm.MethodName) prog_1_method_35_code (2 : Nat) (Option.some Jvm.ClassFile.FieldType.int)) ∈ lw_all := lw_g (lw_at lw_m9 82 rfl) rfl
theorem q2055 : (Jvm.Cond.instanceMethod ({ cls := "TrunkYards", name := "way", desc := "(I)I" } : Jvm.MethodName)) ∈ lw_all := lw_g (lw_at lw_m9 87 rfl) rfl
theorem q2056 : (Jvm.Cond.selects "TrunkYards" ({ cls := "TrunkYards", name := "way", desc := "(I)I" } : Jvm.MethodName) ({ cls := "TrunkYards", name := "way", desc := "(I)I" } : Jvm.MethodName)) ∈ lw_all := lw_g (lw_at lw_m9 88 rfl) rfl
theorem q2057 : (Jvm.Cond.code ({ cls := "TrunkYards", name := "way", desc := "(I)I" } : Jvm.MethodName) prog_1_method_36_code (2 : Nat) (Option.some Jvm.ClassFile.FieldType.int)) ∈ lw_all := lw_g (lw_at lw_m9 89 rfl) rfl
theorem q2062 : (Jvm.Cond.instanceMethod ({ cls := "TrunkYards", name := "cut", desc := "(III)I" } : Jvm.MethodName)) ∈ lw_all := lw_g (lw_at lw_m9 94 rfl) rfl
theorem q2063 : (Jvm.Cond.selects "TrunkYards" ({ cls := "TrunkYards", name := "cut", desc := "(III)I" } : Jvm.MethodName) ({ cls := "TrunkYards", name := "cut", desc := "(III)I" } : Jvm.MethodName)) ∈ lw_all := lw_g (lw_at lw_m9 95 rfl) rfl
theorem q2064 : (Jvm.Cond.code ({ cls := "TrunkYards", name := "cut", desc := "(III)I" } : Jvm.MethodName) prog_1_method_38_code (7 : Nat) (Option.some Jvm.ClassFile.FieldType.int)) ∈ lw_all := lw_g (lw_at lw_m9 96 rfl) rfl
theorem q2065 : (Jvm.Cond.methodLink "TrunkYards" (290 : Nat) ({ cls := "TrunkYards", name := "trunkOf", desc := "(III)LTrunkYards$Trunk;" } : Jvm.MethodName)) ∈ lw_all := lw_g (lw_at lw_m9 97 rfl) rfl
theorem q2066 : (Jvm.Cond.privateMethod ({ cls := "TrunkYards", name := "trunkOf", desc := "(III)LTrunkYards$Trunk;" } : Jvm.MethodName)) ∈ lw_tbl := lw_at lw_m9 98 rfl
theorem q2067 : (Jvm.Cond.instanceMethod ({ cls := "TrunkYards", name := "trunkOf", desc := "(III)LTrunkYards$Trunk;" } : Jvm.MethodName)) ∈ lw_all := lw_g (lw_at lw_m9 99 rfl) rfl
theorem q2068 : (Jvm.Cond.code ({ cls := "TrunkYards", name := "trunkOf", desc := "(III)LTrunkYards$Trunk;" } : Jvm.MethodName) prog_1_method_12_code (4 : Nat) (Option.some (Jvm.ClassFile.FieldType.object "TrunkYards$Trunk"))) ∈ lw_all := lw_g (lw_at lw_m9 100 rfl) rfl
theorem q2073 : (Jvm.Cond.instanceMethod ({ cls := "TrunkYards", name := "mend", desc := "(III)V" } : Jvm.MethodName)) ∈ lw_all := lw_g (lw_at lw_m9 105 rfl) rfl
theorem q2074 : (Jvm.Cond.selects "TrunkYards" ({ cls := "TrunkYards", name := "mend", desc := "(III)V" } : Jvm.MethodName) ({ cls := "TrunkYards", name := "mend", desc := "(III)V" } : Jvm.MethodName)) ∈ lw_all := lw_g (lw_at lw_m9 106 rfl) rfl
theorem q2075 : (Jvm.Cond.code ({ cls := "TrunkYards", name := "mend", desc := "(III)V" } : Jvm.MethodName) prog_1_method_39_code (5 : Nat) (Option.none : Option Jvm.ClassFile.FieldType)) ∈ lw_all := lw_g (lw_at lw_m9 107 rfl) rfl
theorem q2080 : (Jvm.Cond.instanceMethod ({ cls := "TrunkYards", name := "trunk", desc := "(III)I" } : Jvm.MethodName)) ∈ lw_all := lw_g (lw_at lw_m9 112 rfl) rfl
theorem q2081 : (Jvm.Cond.selects "TrunkYards" ({ cls := "TrunkYards", name := "trunk", desc := "(III)I" } : Jvm.MethodName) ({ cls := "TrunkYards", name := "trunk", desc := "(III)I" } : Jvm.MethodName)) ∈ lw_all := lw_g (lw_at lw_m9 113 rfl) rfl
theorem q2082 : (Jvm.Cond.code ({ cls := "TrunkYards", name := "trunk", desc := "(III)I" } : Jvm.MethodName) prog_1_method_40_code (5 : Nat) (Option.some Jvm.ClassFile.FieldType.int)) ∈ lw_all := lw_g (lw_at lw_m9 114 rfl) rfl
theorem q2087 : (Jvm.Cond.instanceMethod ({ cls := "TrunkYards", name := "setLines", desc := "(II)I" } : Jvm.MethodName)) ∈ lw_all := lw_g (lw_at lw_m9 119 rfl) rfl
theorem q2088 : (Jvm.Cond.selects "TrunkYards" ({ cls := "TrunkYards", name := "setLines", desc := "(II)I" } : Jvm.MethodName) ({ cls := "TrunkYards", name := "setLines", desc := "(II)I" } : Jvm.MethodName)) ∈ lw_all := lw_g (lw_at lw_m9 120 rfl) rfl
theorem q2089 : (Jvm.Cond.code ({ cls := "TrunkYards", name := "setLines", desc := "(II)I" } : Jvm.MethodName) prog_1_method_41_code (4 : Nat) (Option.some Jvm.ClassFile.FieldType.int)) ∈ lw_all := lw_g (lw_at lw_m9 121 rfl) rfl
theorem q2094 : (Jvm.Cond.instanceMethod ({ cls := "TrunkYards", name := "pass", desc := "(I)I" } : Jvm.MethodName)) ∈ lw_all := lw_g (lw_at lw_m9 126 rfl) rfl
theorem q2095 : (Jvm.Cond.selects "TrunkYards" ({ cls := "TrunkYards", name := "pass", desc := "(I)I" } : Jvm.MethodName) ({ cls := "TrunkYards", name := "pass", desc := "(I)I" } : Jvm.MethodName)) ∈ lw_all := lw_g (lw_at lw_m9 127 rfl) rfl
theorem q2096 : (Jvm.Cond.code ({ cls := "TrunkYards", name := "pass", desc := "(I)I" } : Jvm.MethodName) prog_1_method_42_code (6 : Nat) (Option.some Jvm.ClassFile.FieldType.int)) ∈ lw_all := lw_g (lw_at lw_m9 128 rfl) rfl
theorem q2101 : (Jvm.Cond.instanceMethod ({ cls := "TrunkYards", name := "state", desc := "(I)I" } : Jvm.MethodName)) ∈ lw_all := lw_g (lw_at lw_m9 133 rfl) rfl
theorem q2102 : (Jvm.Cond.selects "TrunkYards" ({ cls := "TrunkYards", name := "state", desc := "(I)I" } : Jvm.MethodName) ({ cls := "TrunkYards", name := "state", desc := "(I)I" } : Jvm.MethodName)) ∈ lw_all := lw_g (lw_at lw_m9 134 rfl) rfl
theorem q2103 : (Jvm.Cond.code ({ cls := "TrunkYards", name := "state", desc := "(I)I" } : Jvm.MethodName) prog_1_method_44_code (2 : Nat) (Option.some Jvm.ClassFile.FieldType.int)) ∈ lw_all := lw_g (lw_at lw_m9 135 rfl) rfl
theorem q2104 : (Jvm.Cond.methodLink "TrunkYards" (307 : Nat) ({ cls := "TrunkYards$State", name := "ordinal", desc := "()I" } : Jvm.MethodName)) ∈ lw_all := lw_g (lw_at lw_m9 136 rfl) rfl
theorem q2117 : (Jvm.Cond.instanceMethod ({ cls := "TrunkYards", name := "wagons", desc := "(I)I" } : Jvm.MethodName)) ∈ lw_all := lw_g (lw_at lw_m9 149 rfl) rfl
theorem q2118 : (Jvm.Cond.selects "TrunkYards" ({ cls := "TrunkYards", name := "wagons", desc := "(I)I" } : Jvm.MethodName) ({ cls := "TrunkYards", name := "wagons", desc := "(I)I" } : Jvm.MethodName)) ∈ lw_all := lw_g (lw_at lw_m9 150 rfl) rfl
theorem q2119 : (Jvm.Cond.code ({ cls := "TrunkYards", name := "wagons", desc := "(I)I" } : Jvm.MethodName) prog_1_method_45_code (2 : Nat) (Option.some Jvm.ClassFile.FieldType.int)) ∈ lw_all := lw_g (lw_at lw_m9 151 rfl) rfl
theorem q2124 : (Jvm.Cond.instanceMethod ({ cls := "TrunkYards", name := "wagonOf", desc := "(II)I" } : Jvm.MethodName)) ∈ lw_all := lw_g (lw_at lw_m9 156 rfl) rfl
theorem q2125 : (Jvm.Cond.selects "TrunkYards" ({ cls := "TrunkYards", name := "wagonOf", desc := "(II)I" } : Jvm.MethodName) ({ cls := "TrunkYards", name := "wagonOf", desc := "(II)I" } : Jvm.MethodName)) ∈ lw_all := lw_g (lw_at lw_m9 157 rfl) rfl
theorem q2126 : (Jvm.Cond.code ({ cls := "TrunkYards", name := "wagonOf", desc := "(II)I" } : Jvm.MethodName) prog_1_method_46_code (4 : Nat) (Option.some Jvm.ClassFile.FieldType.int)) ∈ lw_all := lw_g (lw_at lw_m9 158 rfl) rfl
theorem q2131 : (Jvm.Cond.instanceMethod ({ cls := "TrunkYards", name := "lapses", desc := "(I)I" } : Jvm.MethodName)) ∈ lw_all := lw_g (lw_at lw_m9 163 rfl) rfl
theorem q2132 : (Jvm.Cond.selects "TrunkYards" ({ cls := "TrunkYards", name := "lapses", desc := "(I)I" } : Jvm.MethodName) ({ cls := "TrunkYards", name := "lapses", desc := "(I)I" } : Jvm.MethodName)) ∈ lw_all := lw_g (lw_at lw_m9 164 rfl) rfl
theorem q2133 : (Jvm.Cond.code ({ cls := "TrunkYards", name := "lapses", desc := "(I)I" } : Jvm.MethodName) prog_1_method_47_code (3 : Nat) (Option.some Jvm.ClassFile.FieldType.int)) ∈ lw_all := lw_g (lw_at lw_m9 165 rfl) rfl
theorem q2138 : (Jvm.Cond.instanceMethod ({ cls := "TrunkYards", name := "depart", desc := "(III)I" } : Jvm.MethodName)) ∈ lw_all := lw_g (lw_at lw_m9 170 rfl) rfl
theorem q2139 : (Jvm.Cond.selects "TrunkYards" ({ cls := "TrunkYards", name := "depart", desc := "(III)I" } : Jvm.MethodName) ({ cls := "TrunkYards", name := "depart", desc := "(III)I" } : Jvm.MethodName)) ∈ lw_all := lw_g (lw_at lw_m9 171 rfl) rfl
theorem q2140 : (Jvm.Cond.code ({ cls := "TrunkYards", name := "depart", desc := "(III)I" } : Jvm.MethodName) prog_1_method_49_code (9 : Nat) (Option.some Jvm.ClassFile.FieldType.int)) ∈ lw_all := lw_g (lw_at lw_m9 172 rfl) rfl
theorem q2141 : (Jvm.Cond.methodLink "TrunkYards" (310 : Nat) ({ cls := "java/util/LinkedList", name := "iterator", desc := "()Ljava/util/Iterator;" } : Jvm.MethodName)) ∈ lw_all := lw_g (lw_at lw_m9 173 rfl) rfl
theorem q2225 : (Jvm.Cond.methodLink "TrunkYards" (311 : Nat) ({ cls := "TrunkYards$State", name := "canDepart", desc := "()Z" } : Jvm.MethodName)) ∈ lw_all := lw_g (lw_at lw_m10 17 rfl) rfl
theorem q2235 : (Jvm.Cond.methodLink "TrunkYards" (314 : Nat) ({ cls := "TrunkYards", name := "isWhole", desc := "(LTrunkYards$Booking;I)Z" } : Jvm.MethodName)) ∈ lw_all := lw_g (lw_at lw_m10 27 rfl) rfl
theorem q2236 : (Jvm.Cond.static ({ cls := "TrunkYards", name := "isWhole", desc := "(LTrunkYards$Booking;I)Z" } : Jvm.MethodName)) ∈ lw_all := lw_g (lw_at lw_m10 28 rfl) rfl
theorem q2237 : (Jvm.Cond.code ({ cls := "TrunkYards", name := "isWhole", desc := "(LTrunkYards$Booking;I)Z" } : Jvm.MethodName) prog_1_method_48_code (5 : Nat) (Option.some Jvm.ClassFile.FieldType.boolean)) ∈ lw_all := lw_g (lw_at lw_m10 29 rfl) rfl
theorem q2238 : (Jvm.Cond.fieldLink "TrunkYards" (318 : Nat) "TrunkYards$State" "UNDER_WAY" "LTrunkYards$State;") ∈ lw_all := lw_g (lw_at lw_m10 30 rfl) rfl
theorem q2240 : (Jvm.Cond.classLink "TrunkYards" (321 : Nat) "TrunkYards$Train") ∈ lw_all := lw_g (lw_at lw_m10 32 rfl) rfl
theorem q2242 : (Jvm.Cond.methodLink "TrunkYards" (323 : Nat) ({ cls := "java/util/LinkedList", name := "<init>", desc := "(Ljava/util/Collection;)V" } : Jvm.MethodName)) ∈ lw_all := lw_g (lw_at lw_m10 34 rfl) rfl
theorem q2285 : (Jvm.Cond.methodLink "TrunkYards" (326 : Nat) ({ cls := "TrunkYards$Train", name := "<init>", desc := "(Ljava/util/LinkedList;I)V" } : Jvm.MethodName)) ∈ lw_all := lw_g (lw_at lw_m10 77 rfl) rfl
theorem q2290 : (Jvm.Cond.fieldLinkNest "TrunkYards" (343 : Nat) "TrunkYards$Train" "wagons" "Ljava/util/LinkedList;" "TrunkYards") ∈ lw_tbl := lw_at lw_m10 82 rfl
theorem q2292 : (Jvm.Cond.fieldLinkNest "TrunkYards" (337 : Nat) "TrunkYards$Train" "to" "I" "TrunkYards") ∈ lw_tbl := lw_at lw_m10 84 rfl
theorem q2293 : (Jvm.Cond.fieldLinkNest "TrunkYards" (340 : Nat) "TrunkYards$Train" "hasArrived" "Z" "TrunkYards") ∈ lw_tbl := lw_at lw_m10 85 rfl
theorem q2301 : (Jvm.Cond.methodLink "TrunkYards" (329 : Nat) ({ cls := "java/util/LinkedList", name := "clear", desc := "()V" } : Jvm.MethodName)) ∈ lw_all := lw_g (lw_at lw_m10 93 rfl) rfl
theorem q2305 : (Jvm.Cond.classLink "TrunkYards" (332 : Nat) "TrunkYards$Departed") ∈ lw_all := lw_g (lw_at lw_m10 97 rfl) rfl
theorem q2307 : (Jvm.Cond.methodLink "TrunkYards" (334 : Nat) ({ cls := "TrunkYards$Departed", name := "<init>", desc := "(I)V" } : Jvm.MethodName)) ∈ lw_all := lw_g (lw_at lw_m10 99 rfl) rfl
theorem q2320 : (Jvm.Cond.instanceMethod ({ cls := "TrunkYards", name := "arrive", desc := "(II)I" } : Jvm.MethodName)) ∈ lw_all := lw_g (lw_at lw_m10 112 rfl) rfl
theorem q2321 : (Jvm.Cond.selects "TrunkYards" ({ cls := "TrunkYards", name := "arrive", desc := "(II)I" } : Jvm.MethodName) ({ cls := "TrunkYards", name := "arrive", desc := "(II)I" } : Jvm.MethodName)) ∈ lw_all := lw_g (lw_at lw_m10 113 rfl) rfl
theorem q2322 : (Jvm.Cond.code ({ cls := "TrunkYards", name := "arrive", desc := "(II)I" } : Jvm.MethodName) prog_1_method_50_code (9 : Nat) (Option.some Jvm.ClassFile.FieldType.int)) ∈ lw_all := lw_g (lw_at lw_m10 114 rfl) rfl
theorem q2323 : (Jvm.Cond.fieldLink "TrunkYards" (346 : Nat) "TrunkYards$State" "DONE" "LTrunkYards$State;") ∈ lw_all := lw_g (lw_at lw_m10 115 rfl) rfl
theorem q2325 : (Jvm.Cond.classLink "TrunkYards" (349 : Nat) "TrunkYards$Arrived") ∈ lw_all := lw_g (lw_at lw_m10 117 rfl) rfl
theorem q2327 : (Jvm.Cond.methodLink "TrunkYards" (351 : Nat) ({ cls := "TrunkYards$Arrived", name := "<init>", desc := "(II)V" } : Jvm.MethodName)) ∈ lw_all := lw_g (lw_at lw_m10 119 rfl) rfl
theorem q2694 : (Jvm.Cond.castable "TrunkYards" "java/lang/Object") ∈ lw_tbl := lw_at lw_m12 6 rfl
theorem in_X1 : ∀ w ∈ wsX10, w ∈ lw_all := lw_in wsX10 [1209, 1211, 1213, 1215, 1217, 1219, 1221, 1223, 1225, 1227, 1229] (by decide +kernel) (by decide +kernel)

/-! TrunkYards$Pair -/
set_option maxRecDepth 100000
def RX2 : String := "TrunkYards$Pair"
def TX2 : u_T := fun k => match k with
  | 0 => ("TrunkYards$Pair", "low", "I", true)
  | _ => ("TrunkYards$Pair", "high", "I", true)
def tyX2 : Nat → FieldType := fun k => match k with
  | 0 => .int
  | _ => .int
abbrev wsX20 : List Cond := u_ws RX2 TX2 2
theorem nmX2 : ∀ a, a < 2 → ∀ b, b < 2 → a ≠ b → (TX2 a).2.1 ≠ (TX2 b).2.1 := by decide +kernel
theorem tyX2_ok : ∀ k, k < 2 → parseFieldDescriptor (TX2 k).2.2.1 = some (tyX2 k) := by decide +kernel
abbrev cX2_init : ByteArray := prog_7_method_1_code
def yX2_init : MethodName := ⟨RX2, "<init>", "(II)V"⟩
def dkwX2_init_0 : List UInt8 := [42, 183, 0, 3, 42, 27, 28, 184, 0, 9, 181, 0, 15, 42, 27, 28, 184, 0, 21, 181, 0, 24, 177]
abbrev dktX2_init_0 : List UInt8 := dkwX2_init_0 ++ []
theorem dksX2_init_0 : cX2_init.data.toList.drop 0 = dktX2_init_0 := by decide +kernel
theorem dX2_init_0 : decode cX2_init 0 = .ok (.aload_n 0, 1) := dk_42 (dk_at dksX2_init_0 0 rfl rfl)
theorem dX2_init_1 : decode cX2_init 1 = .ok (.invokespecial 3, 3) := dk_183 0 3 (dk_at dksX2_init_0 1 rfl rfl)
theorem dX2_init_4 : decode cX2_init 4 = .ok (.aload_n 0, 1) := dk_42 (dk_at dksX2_init_0 4 rfl rfl)
theorem dX2_init_5 : decode cX2_init 5 = .ok (.iload_n 1, 1) := dk_27 (dk_at dksX2_init_0 5 rfl rfl)
theorem dX2_init_6 : decode cX2_init 6 = .ok (.iload_n 2, 1) := dk_28 (dk_at dksX2_init_0 6 rfl rfl)
theorem dX2_init_7 : decode cX2_init 7 = .ok (.invokestatic 9, 3) := dk_184 0 9 (dk_at dksX2_init_0 7 rfl rfl)
theorem dX2_init_10 : decode cX2_init 10 = .ok (.putfield 15, 3) := dk_181 0 15 (dk_at dksX2_init_0 10 rfl rfl)
theorem dX2_init_13 : decode cX2_init 13 = .ok (.aload_n 0, 1) := dk_42 (dk_at dksX2_init_0 13 rfl rfl)
theorem dX2_init_14 : decode cX2_init 14 = .ok (.iload_n 1, 1) := dk_27 (dk_at dksX2_init_0 14 rfl rfl)
theorem dX2_init_15 : decode cX2_init 15 = .ok (.iload_n 2, 1) := dk_28 (dk_at dksX2_init_0 15 rfl rfl)
theorem dX2_init_16 : decode cX2_init 16 = .ok (.invokestatic 21, 3) := dk_184 0 21 (dk_at dksX2_init_0 16 rfl rfl)
theorem dX2_init_19 : decode cX2_init 19 = .ok (.putfield 24, 3) := dk_181 0 24 (dk_at dksX2_init_0 19 rfl rfl)
theorem dX2_init_22 : decode cX2_init 22 = .ok (.return_, 1) := dk_177 (dk_at dksX2_init_0 22 rfl rfl)
abbrev cX2_hashCode : ByteArray := prog_7_method_3_code
def yX2_hashCode : MethodName := ⟨RX2, "hashCode", "()I"⟩
def dkwX2_hashCode_0 : List UInt8 := [6, 42, 180, 0, 15, 104, 42, 180, 0, 24, 96, 172]
abbrev dktX2_hashCode_0 : List UInt8 := dkwX2_hashCode_0 ++ []
theorem dksX2_hashCode_0 : cX2_hashCode.data.toList.drop 0 = dktX2_hashCode_0 := by decide +kernel
theorem dX2_hashCode_0 : decode cX2_hashCode 0 = .ok (.iconst 3, 1) := dk_6 (dk_at dksX2_hashCode_0 0 rfl rfl)
theorem dX2_hashCode_1 : decode cX2_hashCode 1 = .ok (.aload_n 0, 1) := dk_42 (dk_at dksX2_hashCode_0 1 rfl rfl)
theorem dX2_hashCode_2 : decode cX2_hashCode 2 = .ok (.getfield 15, 3) := dk_180 0 15 (dk_at dksX2_hashCode_0 2 rfl rfl)
theorem dX2_hashCode_5 : decode cX2_hashCode 5 = .ok (.imul, 1) := dk_104 (dk_at dksX2_hashCode_0 5 rfl rfl)
theorem dX2_hashCode_6 : decode cX2_hashCode 6 = .ok (.aload_n 0, 1) := dk_42 (dk_at dksX2_hashCode_0 6 rfl rfl)
theorem dX2_hashCode_7 : decode cX2_hashCode 7 = .ok (.getfield 24, 3) := dk_180 0 24 (dk_at dksX2_hashCode_0 7 rfl rfl)
theorem dX2_hashCode_10 : decode cX2_hashCode 10 = .ok (.iadd, 1) := dk_96 (dk_at dksX2_hashCode_0 10 rfl rfl)
theorem dX2_hashCode_11 : decode cX2_hashCode 11 = .ok (.ireturn, 1) := dk_172 (dk_at dksX2_hashCode_0 11 rfl rfl)
abbrev cX2_equals : ByteArray := prog_7_method_2_code
def yX2_equals : MethodName := ⟨RX2, "equals", "(Ljava/lang/Object;)Z"⟩
def dkwX2_equals_1 : List UInt8 := [192, 0, 16, 180, 0, 24, 42, 180, 0, 24, 160, 0, 7, 4, 167, 0, 4, 3, 172]
abbrev dktX2_equals_1 : List UInt8 := dkwX2_equals_1 ++ []
def dkwX2_equals_0 : List UInt8 := [43, 193, 0, 16, 153, 0, 35, 43, 192, 0, 16, 180, 0, 15, 42, 180, 0, 15, 160, 0, 21, 43]
abbrev dktX2_equals_0 : List UInt8 := dkwX2_equals_0 ++ dktX2_equals_1
theorem dksX2_equals_0 : cX2_equals.data.toList.drop 0 = dktX2_equals_0 := by decide +kernel
theorem dksX2_equals_1 : cX2_equals.data.toList.drop 22 = dktX2_equals_1 := dk_seg dksX2_equals_0 22 rfl rfl
theorem dX2_equals_0 : decode cX2_equals 0 = .ok (.aload_n 1, 1) := dk_43 (dk_at dksX2_equals_0 0 rfl rfl)
theorem dX2_equals_1 : decode cX2_equals 1 = .ok (.instanceof 16, 3) := dk_193 0 16 (dk_at dksX2_equals_0 1 rfl rfl)
theorem dX2_equals_4 : decode cX2_equals 4 = .ok (.ifCond .eq 35, 3) := dk_153 0 35 (dk_at dksX2_equals_0 4 rfl rfl)
theorem dX2_equals_7 : decode cX2_equals 7 = .ok (.aload_n 1, 1) := dk_43 (dk_at dksX2_equals_0 7 rfl rfl)
theorem dX2_equals_8 : decode cX2_equals 8 = .ok (.checkcast 16, 3) := dk_192 0 16 (dk_at dksX2_equals_0 8 rfl rfl)
theorem dX2_equals_11 : decode cX2_equals 11 = .ok (.getfield 15, 3) := dk_180 0 15 (dk_at dksX2_equals_0 11 rfl rfl)
theorem dX2_equals_14 : decode cX2_equals 14 = .ok (.aload_n 0, 1) := dk_42 (dk_at dksX2_equals_0 14 rfl rfl)
theorem dX2_equals_15 : decode cX2_equals 15 = .ok (.getfield 15, 3) := dk_180 0 15 (dk_at dksX2_equals_0 15 rfl rfl)
theorem dX2_equals_18 : decode cX2_equals 18 = .ok (.if_icmp .ne 21, 3) := dk_160 0 21 (dk_at dksX2_equals_0 18 rfl rfl)
theorem dX2_equals_21 : decode cX2_equals 21 = .ok (.aload_n 1, 1) := dk_43 (dk_at dksX2_equals_0 21 rfl rfl)
theorem dX2_equals_22 : decode cX2_equals 22 = .ok (.checkcast 16, 3) := dk_192 0 16 (dk_at dksX2_equals_1 0 rfl rfl)
theorem dX2_equals_25 : decode cX2_equals 25 = .ok (.getfield 24, 3) := dk_180 0 24 (dk_at dksX2_equals_1 3 rfl rfl)
theorem dX2_equals_28 : decode cX2_equals 28 = .ok (.aload_n 0, 1) := dk_42 (dk_at dksX2_equals_1 6 rfl rfl)
theorem dX2_equals_29 : decode cX2_equals 29 = .ok (.getfield 24, 3) := dk_180 0 24 (dk_at dksX2_equals_1 7 rfl rfl)
theorem dX2_equals_32 : decode cX2_equals 32 = .ok (.if_icmp .ne 7, 3) := dk_160 0 7 (dk_at dksX2_equals_1 10 rfl rfl)
theorem dX2_equals_35 : decode cX2_equals 35 = .ok (.iconst 1, 1) := dk_4 (dk_at dksX2_equals_1 13 rfl rfl)
theorem dX2_equals_36 : decode cX2_equals 36 = .ok (.goto 4, 3) := dk_167 0 4 (dk_at dksX2_equals_1 14 rfl rfl)
theorem dX2_equals_39 : decode cX2_equals 39 = .ok (.iconst 0, 1) := dk_3 (dk_at dksX2_equals_1 17 rfl rfl)
theorem dX2_equals_40 : decode cX2_equals 40 = .ok (.ireturn, 1) := dk_172 (dk_at dksX2_equals_1 18 rfl rfl)
theorem q62 : (Jvm.Cond.initialized "TrunkYards$Pair") ∈ lw_all := lw_g (lw_at lw_m1 14 rfl) rfl
theorem q259 : (Jvm.Cond.selects "TrunkYards$Pair" ({ cls := "java/lang/Object", name := "getClass", desc := "()Ljava/lang/Class;" } : Jvm.MethodName) ({ cls := "java/lang/Object", name := "getClass", desc := "()Ljava/lang/Class;" } : Jvm.MethodName)) ∈ lw_all := lw_g (lw_at lw_m1 211 rfl) rfl
theorem q309 : (Jvm.Cond.instantiable "TrunkYards$Pair" (2 : Nat)) ∈ lw_all := lw_g (lw_at lw_m2 21 rfl) rfl
theorem q311 : (Jvm.Cond.instanceMethod ({ cls := "TrunkYards$Pair", name := "<init>", desc := "(II)V" } : Jvm.MethodName)) ∈ lw_all := lw_g (lw_at lw_m2 23 rfl) rfl
theorem q312 : (Jvm.Cond.code ({ cls := "TrunkYards$Pair", name := "<init>", desc := "(II)V" } : Jvm.MethodName) prog_7_method_1_code (3 : Nat) (Option.none : Option Jvm.ClassFile.FieldType)) ∈ lw_all := lw_g (lw_at lw_m2 24 rfl) rfl
theorem q313 : (Jvm.Cond.methodLink "TrunkYards$Pair" (3 : Nat) ({ cls := "java/lang/Object", name := "<init>", desc := "()V" } : Jvm.MethodName)) ∈ lw_all := lw_g (lw_at lw_m2 25 rfl) rfl
theorem q314 : (Jvm.Cond.methodLink "TrunkYards$Pair" (9 : Nat) ({ cls := "java/lang/Math", name := "min", desc := "(II)I" } : Jvm.MethodName)) ∈ lw_all := lw_g (lw_at lw_m2 26 rfl) rfl
theorem q315 : (Jvm.Cond.methodLink "TrunkYards$Pair" (21 : Nat) ({ cls := "java/lang/Math", name := "max", desc := "(II)I" } : Jvm.MethodName)) ∈ lw_all := lw_g (lw_at lw_m2 27 rfl) rfl
theorem q316 : (Jvm.Cond.fieldLink "TrunkYards$Pair" (15 : Nat) "TrunkYards$Pair" "low" "I") ∈ lw_all := lw_g (lw_at lw_m2 28 rfl) rfl
theorem q317 : (Jvm.Cond.fieldLink "TrunkYards$Pair" (24 : Nat) "TrunkYards$Pair" "high" "I") ∈ lw_all := lw_g (lw_at lw_m2 29 rfl) rfl
theorem q318 : (Jvm.Cond.laysFinal "TrunkYards$Pair" "TrunkYards$Pair" "low" "I") ∈ lw_all := lw_g (lw_at lw_m2 30 rfl) rfl
theorem q319 : (Jvm.Cond.soleField "TrunkYards$Pair" "low") ∈ lw_all := lw_g (lw_at lw_m2 31 rfl) rfl
theorem q320 : (Jvm.Cond.laysFinal "TrunkYards$Pair" "TrunkYards$Pair" "high" "I") ∈ lw_all := lw_g (lw_at lw_m2 32 rfl) rfl
theorem q321 : (Jvm.Cond.soleField "TrunkYards$Pair" "high") ∈ lw_all := lw_g (lw_at lw_m2 33 rfl) rfl
theorem q322 : (Jvm.Cond.superclass "TrunkYards$Pair" "java/lang/Object") ∈ lw_all := lw_g (lw_at lw_m2 34 rfl) rfl
theorem q358 : (Jvm.Cond.selects "TrunkYards$Pair" ({ cls := "java/lang/Object", name := "hashCode", desc := "()I" } : Jvm.MethodName) ({ cls := "TrunkYards$Pair", name := "hashCode", desc := "()I" } : Jvm.MethodName)) ∈ lw_all := lw_g (lw_at lw_m2 70 rfl) rfl
theorem q359 : (Jvm.Cond.instanceMethod ({ cls := "TrunkYards$Pair", name := "hashCode", desc := "()I" } : Jvm.MethodName)) ∈ lw_all := lw_g (lw_at lw_m2 71 rfl) rfl
theorem q360 : (Jvm.Cond.code ({ cls := "TrunkYards$Pair", name := "hashCode", desc := "()I" } : Jvm.MethodName) prog_7_method_3_code (1 : Nat) (Option.some Jvm.ClassFile.FieldType.int)) ∈ lw_all := lw_g (lw_at lw_m2 72 rfl) rfl
theorem q1084 : (Jvm.Cond.selects "TrunkYards$Pair" ({ cls := "java/lang/Object", name := "equals", desc := "(Ljava/lang/Object;)Z" } : Jvm.MethodName) ({ cls := "TrunkYards$Pair", name := "equals", desc := "(Ljava/lang/Object;)Z" } : Jvm.MethodName)) ∈ lw_all := lw_g (lw_at lw_m5 76 rfl) rfl
theorem q1085 : (Jvm.Cond.instanceMethod ({ cls := "TrunkYards$Pair", name := "equals", desc := "(Ljava/lang/Object;)Z" } : Jvm.MethodName)) ∈ lw_all := lw_g (lw_at lw_m5 77 rfl) rfl
theorem q1086 : (Jvm.Cond.code ({ cls := "TrunkYards$Pair", name := "equals", desc := "(Ljava/lang/Object;)Z" } : Jvm.MethodName) prog_7_method_2_code (2 : Nat) (Option.some Jvm.ClassFile.FieldType.boolean)) ∈ lw_all := lw_g (lw_at lw_m5 78 rfl) rfl
theorem q1087 : (Jvm.Cond.classLink "TrunkYards$Pair" (16 : Nat) "TrunkYards$Pair") ∈ lw_all := lw_g (lw_at lw_m5 79 rfl) rfl
theorem q2698 : (Jvm.Cond.castable "TrunkYards$Pair" "java/lang/Object") ∈ lw_tbl := lw_at lw_m12 10 rfl
theorem in_X2 : ∀ w ∈ wsX20, w ∈ lw_all := lw_in wsX20 [318, 320] (by decide +kernel) (by decide +kernel)

/-! TrunkYards$Trunk -/
set_option maxRecDepth 100000
def RX3 : String := "TrunkYards$Trunk"
def TX3 : u_T := fun k => match k with
  | 0 => ("TrunkYards$Trunk", "call", "LTrunkYards$Call;", false)
  | _ => ("TrunkYards$Trunk", "isCut", "Z", false)
def tyX3 : Nat → FieldType := fun k => match k with
  | 0 => .object "TrunkYards$Call"
  | _ => .boolean
abbrev wsX30 : List Cond := u_ws RX3 TX3 2
theorem nmX3 : ∀ a, a < 2 → ∀ b, b < 2 → a ≠ b → (TX3 a).2.1 ≠ (TX3 b).2.1 := by decide +kernel
theorem tyX3_ok : ∀ k, k < 2 → parseFieldDescriptor (TX3 k).2.2.1 = some (tyX3 k) := by decide +kernel
abbrev cX3_init : ByteArray := prog_16_method_1_code
def yX3_init : MethodName := ⟨RX3, "<init>", "()V"⟩
theorem dX3_init_0 : decode cX3_init 0 = .ok (.aload_n 0, 1) := by decide +kernel
theorem dX3_init_1 : decode cX3_init 1 = .ok (.invokespecial 1, 3) := by decide +kernel
theorem dX3_init_4 : decode cX3_init 4 = .ok (.return_, 1) := by decide +kernel
abbrev cX3_isFree : ByteArray := prog_16_method_2_code
def yX3_isFree : MethodName := ⟨RX3, "isFree", "()Z"⟩
def dkwX3_isFree_0 : List UInt8 := [42, 180, 0, 7, 199, 0, 14, 42, 180, 0, 13, 154, 0, 7, 4, 167, 0, 4, 3, 172]
abbrev dktX3_isFree_0 : List UInt8 := dkwX3_isFree_0 ++ []
theorem dksX3_isFree_0 : cX3_isFree.data.toList.drop 0 = dktX3_isFree_0 := by decide +kernel
theorem dX3_isFree_0 : decode cX3_isFree 0 = .ok (.aload_n 0, 1) := dk_42 (dk_at dksX3_isFree_0 0 rfl rfl)
theorem dX3_isFree_1 : decode cX3_isFree 1 = .ok (.getfield 7, 3) := dk_180 0 7 (dk_at dksX3_isFree_0 1 rfl rfl)
theorem dX3_isFree_4 : decode cX3_isFree 4 = .ok (.ifnonnull 14, 3) := dk_199 0 14 (dk_at dksX3_isFree_0 4 rfl rfl)
theorem dX3_isFree_7 : decode cX3_isFree 7 = .ok (.aload_n 0, 1) := dk_42 (dk_at dksX3_isFree_0 7 rfl rfl)
theorem dX3_isFree_8 : decode cX3_isFree 8 = .ok (.getfield 13, 3) := dk_180 0 13 (dk_at dksX3_isFree_0 8 rfl rfl)
theorem dX3_isFree_11 : decode cX3_isFree 11 = .ok (.ifCond .ne 7, 3) := dk_154 0 7 (dk_at dksX3_isFree_0 11 rfl rfl)
theorem dX3_isFree_14 : decode cX3_isFree 14 = .ok (.iconst 1, 1) := dk_4 (dk_at dksX3_isFree_0 14 rfl rfl)
theorem dX3_isFree_15 : decode cX3_isFree 15 = .ok (.goto 4, 3) := dk_167 0 4 (dk_at dksX3_isFree_0 15 rfl rfl)
theorem dX3_isFree_18 : decode cX3_isFree 18 = .ok (.iconst 0, 1) := dk_3 (dk_at dksX3_isFree_0 18 rfl rfl)
theorem dX3_isFree_19 : decode cX3_isFree 19 = .ok (.ireturn, 1) := dk_172 (dk_at dksX3_isFree_0 19 rfl rfl)
theorem q63 : (Jvm.Cond.initialized "TrunkYards$Trunk") ∈ lw_all := lw_g (lw_at lw_m1 15 rfl) rfl
theorem q268 : (Jvm.Cond.selects "TrunkYards$Trunk" ({ cls := "java/lang/Object", name := "getClass", desc := "()Ljava/lang/Class;" } : Jvm.MethodName) ({ cls := "java/lang/Object", name := "getClass", desc := "()Ljava/lang/Class;" } : Jvm.MethodName)) ∈ lw_all := lw_g (lw_at lw_m1 220 rfl) rfl
theorem q325 : (Jvm.Cond.instantiable "TrunkYards$Trunk" (2 : Nat)) ∈ lw_all := lw_g (lw_at lw_m2 37 rfl) rfl
theorem q327 : (Jvm.Cond.instanceMethod ({ cls := "TrunkYards$Trunk", name := "<init>", desc := "()V" } : Jvm.MethodName)) ∈ lw_all := lw_g (lw_at lw_m2 39 rfl) rfl
theorem q328 : (Jvm.Cond.code ({ cls := "TrunkYards$Trunk", name := "<init>", desc := "()V" } : Jvm.MethodName) prog_16_method_1_code (1 : Nat) (Option.none : Option Jvm.ClassFile.FieldType)) ∈ lw_all := lw_g (lw_at lw_m2 40 rfl) rfl
theorem q329 : (Jvm.Cond.methodLink "TrunkYards$Trunk" (1 : Nat) ({ cls := "java/lang/Object", name := "<init>", desc := "()V" } : Jvm.MethodName)) ∈ lw_all := lw_g (lw_at lw_m2 41 rfl) rfl
theorem q331 : (Jvm.Cond.fieldLink "TrunkYards$Trunk" (7 : Nat) "TrunkYards$Trunk" "call" "LTrunkYards$Call;") ∈ lw_all := lw_g (lw_at lw_m2 43 rfl) rfl
theorem q333 : (Jvm.Cond.fieldLink "TrunkYards$Trunk" (13 : Nat) "TrunkYards$Trunk" "isCut" "Z") ∈ lw_all := lw_g (lw_at lw_m2 45 rfl) rfl
theorem q335 : (Jvm.Cond.lays "TrunkYards$Trunk" "TrunkYards$Trunk" "call" "LTrunkYards$Call;") ∈ lw_all := lw_g (lw_at lw_m2 47 rfl) rfl
theorem q336 : (Jvm.Cond.soleField "TrunkYards$Trunk" "call") ∈ lw_all := lw_g (lw_at lw_m2 48 rfl) rfl
theorem q337 : (Jvm.Cond.lays "TrunkYards$Trunk" "TrunkYards$Trunk" "isCut" "Z") ∈ lw_all := lw_g (lw_at lw_m2 49 rfl) rfl
theorem q338 : (Jvm.Cond.soleField "TrunkYards$Trunk" "isCut") ∈ lw_all := lw_g (lw_at lw_m2 50 rfl) rfl
theorem q339 : (Jvm.Cond.superclass "TrunkYards$Trunk" "java/lang/Object") ∈ lw_all := lw_g (lw_at lw_m2 51 rfl) rfl
theorem q374 : (Jvm.Cond.selects "TrunkYards$Trunk" ({ cls := "java/lang/Object", name := "hashCode", desc := "()I" } : Jvm.MethodName) ({ cls := "java/lang/Object", name := "hashCode", desc := "()I" } : Jvm.MethodName)) ∈ lw_all := lw_g (lw_at lw_m2 86 rfl) rfl
theorem q1098 : (Jvm.Cond.selects "TrunkYards$Trunk" ({ cls := "java/lang/Object", name := "equals", desc := "(Ljava/lang/Object;)Z" } : Jvm.MethodName) ({ cls := "java/lang/Object", name := "equals", desc := "(Ljava/lang/Object;)Z" } : Jvm.MethodName)) ∈ lw_all := lw_g (lw_at lw_m5 90 rfl) rfl
theorem q1874 : (Jvm.Cond.instanceMethod ({ cls := "TrunkYards$Trunk", name := "isFree", desc := "()Z" } : Jvm.MethodName)) ∈ lw_all := lw_g (lw_at lw_m8 146 rfl) rfl
theorem q1875 : (Jvm.Cond.selects "TrunkYards$Trunk" ({ cls := "TrunkYards$Trunk", name := "isFree", desc := "()Z" } : Jvm.MethodName) ({ cls := "TrunkYards$Trunk", name := "isFree", desc := "()Z" } : Jvm.MethodName)) ∈ lw_all := lw_g (lw_at lw_m8 147 rfl) rfl
theorem q1876 : (Jvm.Cond.code ({ cls := "TrunkYards$Trunk", name := "isFree", desc := "()Z" } : Jvm.MethodName) prog_16_method_2_code (1 : Nat) (Option.some Jvm.ClassFile.FieldType.boolean)) ∈ lw_all := lw_g (lw_at lw_m8 148 rfl) rfl
theorem q2692 : (Jvm.Cond.castable "TrunkYards$Trunk" "java/lang/Object") ∈ lw_tbl := lw_at lw_m12 4 rfl
theorem in_X3 : ∀ w ∈ wsX30, w ∈ lw_all := lw_in wsX30 [335, 337] (by decide +kernel) (by decide +kernel)

/-! TrunkYards$Wagon -/
set_option maxRecDepth 100000
def RX5 : String := "TrunkYards$Wagon"
def TX5 : u_T := fun k => match k with
  | 0 => ("TrunkYards$Wagon", "number", "I", true)
  | 1 => ("TrunkYards$Wagon", "track", "I", false)
  | 2 => ("TrunkYards$Wagon", "grain", "I", false)
  | _ => ("TrunkYards$Wagon", "booking", "LTrunkYards$Booking;", false)
def tyX5 : Nat → FieldType := fun k => match k with
  | 0 => .int
  | 1 => .int
  | 2 => .int
  | _ => .object "TrunkYards$Booking"
abbrev wsX50 : List Cond := u_ws RX5 TX5 4
theorem nmX5 : ∀ a, a < 4 → ∀ b, b < 4 → a ≠ b → (TX5 a).2.1 ≠ (TX5 b).2.1 := by decide +kernel
theorem tyX5_ok : ∀ k, k < 4 → parseFieldDescriptor (TX5 k).2.2.1 = some (tyX5 k) := by decide +kernel
abbrev cX5_init : ByteArray := prog_17_method_1_code
def yX5_init : MethodName := ⟨RX5, "<init>", "(II)V"⟩
def dkwX5_init_0 : List UInt8 := [42, 183, 0, 3, 42, 2, 181, 0, 9, 42, 27, 181, 0, 15, 42, 28, 181, 0, 18, 177]
abbrev dktX5_init_0 : List UInt8 := dkwX5_init_0 ++ []
theorem dksX5_init_0 : cX5_init.data.toList.drop 0 = dktX5_init_0 := by decide +kernel
theorem dX5_init_0 : decode cX5_init 0 = .ok (.aload_n 0, 1) := dk_42 (dk_at dksX5_init_0 0 rfl rfl)
theorem dX5_init_1 : decode cX5_init 1 = .ok (.invokespecial 3, 3) := dk_183 0 3 (dk_at dksX5_init_0 1 rfl rfl)
theorem dX5_init_4 : decode cX5_init 4 = .ok (.aload_n 0, 1) := dk_42 (dk_at dksX5_init_0 4 rfl rfl)
theorem dX5_init_5 : decode cX5_init 5 = .ok (.iconst (-1), 1) := dk_2 (dk_at dksX5_init_0 5 rfl rfl)
theorem dX5_init_6 : decode cX5_init 6 = .ok (.putfield 9, 3) := dk_181 0 9 (dk_at dksX5_init_0 6 rfl rfl)
theorem dX5_init_9 : decode cX5_init 9 = .ok (.aload_n 0, 1) := dk_42 (dk_at dksX5_init_0 9 rfl rfl)
theorem dX5_init_10 : decode cX5_init 10 = .ok (.iload_n 1, 1) := dk_27 (dk_at dksX5_init_0 10 rfl rfl)
theorem dX5_init_11 : decode cX5_init 11 = .ok (.putfield 15, 3) := dk_181 0 15 (dk_at dksX5_init_0 11 rfl rfl)
theorem dX5_init_14 : decode cX5_init 14 = .ok (.aload_n 0, 1) := dk_42 (dk_at dksX5_init_0 14 rfl rfl)
theorem dX5_init_15 : decode cX5_init 15 = .ok (.iload_n 2, 1) := dk_28 (dk_at dksX5_init_0 15 rfl rfl)
theorem dX5_init_16 : decode cX5_init 16 = .ok (.putfield 18, 3) := dk_181 0 18 (dk_at dksX5_init_0 16 rfl rfl)
theorem dX5_init_19 : decode cX5_init 19 = .ok (.return_, 1) := dk_177 (dk_at dksX5_init_0 19 rfl rfl)
theorem q85 : (Jvm.Cond.initialized "TrunkYards$Wagon") ∈ lw_all := lw_g (lw_at lw_m1 37 rfl) rfl
theorem q269 : (Jvm.Cond.selects "TrunkYards$Wagon" ({ cls := "java/lang/Object", name := "getClass", desc := "()Ljava/lang/Class;" } : Jvm.MethodName) ({ cls := "java/lang/Object", name := "getClass", desc := "()Ljava/lang/Class;" } : Jvm.MethodName)) ∈ lw_all := lw_g (lw_at lw_m1 221 rfl) rfl
theorem q375 : (Jvm.Cond.selects "TrunkYards$Wagon" ({ cls := "java/lang/Object", name := "hashCode", desc := "()I" } : Jvm.MethodName) ({ cls := "java/lang/Object", name := "hashCode", desc := "()I" } : Jvm.MethodName)) ∈ lw_all := lw_g (lw_at lw_m2 87 rfl) rfl
theorem q1099 : (Jvm.Cond.selects "TrunkYards$Wagon" ({ cls := "java/lang/Object", name := "equals", desc := "(Ljava/lang/Object;)Z" } : Jvm.MethodName) ({ cls := "java/lang/Object", name := "equals", desc := "(Ljava/lang/Object;)Z" } : Jvm.MethodName)) ∈ lw_all := lw_g (lw_at lw_m5 91 rfl) rfl
theorem q1311 : (Jvm.Cond.instantiable "TrunkYards$Wagon" (4 : Nat)) ∈ lw_all := lw_g (lw_at lw_m6 63 rfl) rfl
theorem q1313 : (Jvm.Cond.instanceMethod ({ cls := "TrunkYards$Wagon", name := "<init>", desc := "(II)V" } : Jvm.MethodName)) ∈ lw_all := lw_g (lw_at lw_m6 65 rfl) rfl
theorem q1314 : (Jvm.Cond.code ({ cls := "TrunkYards$Wagon", name := "<init>", desc := "(II)V" } : Jvm.MethodName) prog_17_method_1_code (3 : Nat) (Option.none : Option Jvm.ClassFile.FieldType)) ∈ lw_all := lw_g (lw_at lw_m6 66 rfl) rfl
theorem q1315 : (Jvm.Cond.methodLink "TrunkYards$Wagon" (3 : Nat) ({ cls := "java/lang/Object", name := "<init>", desc := "()V" } : Jvm.MethodName)) ∈ lw_all := lw_g (lw_at lw_m6 67 rfl) rfl
theorem q1316 : (Jvm.Cond.fieldLink "TrunkYards$Wagon" (15 : Nat) "TrunkYards$Wagon" "number" "I") ∈ lw_all := lw_g (lw_at lw_m6 68 rfl) rfl
theorem q1318 : (Jvm.Cond.fieldLink "TrunkYards$Wagon" (18 : Nat) "TrunkYards$Wagon" "track" "I") ∈ lw_all := lw_g (lw_at lw_m6 70 rfl) rfl
theorem q1320 : (Jvm.Cond.fieldLink "TrunkYards$Wagon" (9 : Nat) "TrunkYards$Wagon" "grain" "I") ∈ lw_all := lw_g (lw_at lw_m6 72 rfl) rfl
theorem q1324 : (Jvm.Cond.laysFinal "TrunkYards$Wagon" "TrunkYards$Wagon" "number" "I") ∈ lw_all := lw_g (lw_at lw_m6 76 rfl) rfl
theorem q1325 : (Jvm.Cond.soleField "TrunkYards$Wagon" "number") ∈ lw_all := lw_g (lw_at lw_m6 77 rfl) rfl
theorem q1326 : (Jvm.Cond.lays "TrunkYards$Wagon" "TrunkYards$Wagon" "track" "I") ∈ lw_all := lw_g (lw_at lw_m6 78 rfl) rfl
theorem q1327 : (Jvm.Cond.soleField "TrunkYards$Wagon" "track") ∈ lw_all := lw_g (lw_at lw_m6 79 rfl) rfl
theorem q1328 : (Jvm.Cond.lays "TrunkYards$Wagon" "TrunkYards$Wagon" "grain" "I") ∈ lw_all := lw_g (lw_at lw_m6 80 rfl) rfl
theorem q1329 : (Jvm.Cond.soleField "TrunkYards$Wagon" "grain") ∈ lw_all := lw_g (lw_at lw_m6 81 rfl) rfl
theorem q1330 : (Jvm.Cond.lays "TrunkYards$Wagon" "TrunkYards$Wagon" "booking" "LTrunkYards$Booking;") ∈ lw_all := lw_g (lw_at lw_m6 82 rfl) rfl
theorem q1331 : (Jvm.Cond.soleField "TrunkYards$Wagon" "booking") ∈ lw_all := lw_g (lw_at lw_m6 83 rfl) rfl
theorem q1332 : (Jvm.Cond.superclass "TrunkYards$Wagon" "java/lang/Object") ∈ lw_all := lw_g (lw_at lw_m6 84 rfl) rfl
theorem q2704 : (Jvm.Cond.castable "TrunkYards$Wagon" "java/lang/Object") ∈ lw_tbl := lw_at lw_m12 16 rfl
theorem in_X5 : ∀ w ∈ wsX50, w ∈ lw_all := lw_in wsX50 [1324, 1326, 1328, 1330] (by decide +kernel) (by decide +kernel)

/-! TrunkYards$Placed -/
set_option maxRecDepth 100000
def RX6 : String := "TrunkYards$Placed"
def TX6 : u_T := fun k => match k with
  | 0 => ("TrunkYards$Placed", "wagon", "I", true)
  | _ => ("TrunkYards$Placed", "track", "I", true)
def tyX6 : Nat → FieldType := fun k => match k with
  | 0 => .int
  | _ => .int
abbrev wsX60 : List Cond := u_ws RX6 TX6 2
theorem nmX6 : ∀ a, a < 2 → ∀ b, b < 2 → a ≠ b → (TX6 a).2.1 ≠ (TX6 b).2.1 := by decide +kernel
theorem tyX6_ok : ∀ k, k < 2 → parseFieldDescriptor (TX6 k).2.2.1 = some (tyX6 k) := by decide +kernel
abbrev cX6_init : ByteArray := prog_8_method_1_code
def yX6_init : MethodName := ⟨RX6, "<init>", "(II)V"⟩
def dkwX6_init_0 : List UInt8 := [42, 183, 0, 1, 42, 27, 181, 0, 7, 42, 28, 181, 0, 13, 177]
abbrev dktX6_init_0 : List UInt8 := dkwX6_init_0 ++ []
theorem dksX6_init_0 : cX6_init.data.toList.drop 0 = dktX6_init_0 := by decide +kernel
theorem dX6_init_0 : decode cX6_init 0 = .ok (.aload_n 0, 1) := dk_42 (dk_at dksX6_init_0 0 rfl rfl)
theorem dX6_init_1 : decode cX6_init 1 = .ok (.invokespecial 1, 3) := dk_183 0 1 (dk_at dksX6_init_0 1 rfl rfl)
theorem dX6_init_4 : decode cX6_init 4 = .ok (.aload_n 0, 1) := dk_42 (dk_at dksX6_init_0 4 rfl rfl)
theorem dX6_init_5 : decode cX6_init 5 = .ok (.iload_n 1, 1) := dk_27 (dk_at dksX6_init_0 5 rfl rfl)
theorem dX6_init_6 : decode cX6_init 6 = .ok (.putfield 7, 3) := dk_181 0 7 (dk_at dksX6_init_0 6 rfl rfl)
theorem dX6_init_9 : decode cX6_init 9 = .ok (.aload_n 0, 1) := dk_42 (dk_at dksX6_init_0 9 rfl rfl)
theorem dX6_init_10 : decode cX6_init 10 = .ok (.iload_n 2, 1) := dk_28 (dk_at dksX6_init_0 10 rfl rfl)
theorem dX6_init_11 : decode cX6_init 11 = .ok (.putfield 13, 3) := dk_181 0 13 (dk_at dksX6_init_0 11 rfl rfl)
theorem dX6_init_14 : decode cX6_init 14 = .ok (.return_, 1) := dk_177 (dk_at dksX6_init_0 14 rfl rfl)
theorem q87 : (Jvm.Cond.initialized "TrunkYards$Placed") ∈ lw_all := lw_g (lw_at lw_m1 39 rfl) rfl
theorem q260 : (Jvm.Cond.selects "TrunkYards$Placed" ({ cls := "java/lang/Object", name := "getClass", desc := "()Ljava/lang/Class;" } : Jvm.MethodName) ({ cls := "java/lang/Object", name := "getClass", desc := "()Ljava/lang/Class;" } : Jvm.MethodName)) ∈ lw_all := lw_g (lw_at lw_m1 212 rfl) rfl
theorem q361 : (Jvm.Cond.selects "TrunkYards$Placed" ({ cls := "java/lang/Object", name := "hashCode", desc := "()I" } : Jvm.MethodName) ({ cls := "java/lang/Object", name := "hashCode", desc := "()I" } : Jvm.MethodName)) ∈ lw_all := lw_g (lw_at lw_m2 73 rfl) rfl
theorem q1088 : (Jvm.Cond.selects "TrunkYards$Placed" ({ cls := "java/lang/Object", name := "equals", desc := "(Ljava/lang/Object;)Z" } : Jvm.MethodName) ({ cls := "java/lang/Object", name := "equals", desc := "(Ljava/lang/Object;)Z" } : Jvm.MethodName)) ∈ lw_all := lw_g (lw_at lw_m5 80 rfl) rfl
theorem q1363 : (Jvm.Cond.instantiable "TrunkYards$Placed" (2 : Nat)) ∈ lw_all := lw_g (lw_at lw_m6 115 rfl) rfl
theorem q1365 : (Jvm.Cond.instanceMethod ({ cls := "TrunkYards$Placed", name := "<init>", desc := "(II)V" } : Jvm.MethodName)) ∈ lw_all := lw_g (lw_at lw_m6 117 rfl) rfl
theorem q1366 : (Jvm.Cond.code ({ cls := "TrunkYards$Placed", name := "<init>", desc := "(II)V" } : Jvm.MethodName) prog_8_method_1_code (3 : Nat) (Option.none : Option Jvm.ClassFile.FieldType)) ∈ lw_all := lw_g (lw_at lw_m6 118 rfl) rfl
theorem q1367 : (Jvm.Cond.methodLink "TrunkYards$Placed" (1 : Nat) ({ cls := "java/lang/Object", name := "<init>", desc := "()V" } : Jvm.MethodName)) ∈ lw_all := lw_g (lw_at lw_m6 119 rfl) rfl
theorem q1368 : (Jvm.Cond.fieldLink "TrunkYards$Placed" (7 : Nat) "TrunkYards$Placed" "wagon" "I") ∈ lw_all := lw_g (lw_at lw_m6 120 rfl) rfl
theorem q1370 : (Jvm.Cond.fieldLink "TrunkYards$Placed" (13 : Nat) "TrunkYards$Placed" "track" "I") ∈ lw_all := lw_g (lw_at lw_m6 122 rfl) rfl
theorem q1372 : (Jvm.Cond.laysFinal "TrunkYards$Placed" "TrunkYards$Placed" "wagon" "I") ∈ lw_all := lw_g (lw_at lw_m6 124 rfl) rfl
theorem q1373 : (Jvm.Cond.soleField "TrunkYards$Placed" "wagon") ∈ lw_all := lw_g (lw_at lw_m6 125 rfl) rfl
theorem q1374 : (Jvm.Cond.laysFinal "TrunkYards$Placed" "TrunkYards$Placed" "track" "I") ∈ lw_all := lw_g (lw_at lw_m6 126 rfl) rfl
theorem q1375 : (Jvm.Cond.soleField "TrunkYards$Placed" "track") ∈ lw_all := lw_g (lw_at lw_m6 127 rfl) rfl
theorem q1376 : (Jvm.Cond.superclass "TrunkYards$Placed" "java/lang/Object") ∈ lw_all := lw_g (lw_at lw_m6 128 rfl) rfl
theorem q2690 : (Jvm.Cond.castable "TrunkYards$Placed" "TrunkYards$Event") ∈ lw_tbl := lw_at lw_m12 2 rfl
theorem q2706 : (Jvm.Cond.castable "TrunkYards$Placed" "java/lang/Object") ∈ lw_tbl := lw_at lw_m12 18 rfl
theorem in_X6 : ∀ w ∈ wsX60, w ∈ lw_all := lw_in wsX60 [1372, 1374] (by decide +kernel) (by decide +kernel)

/-! TrunkYards$Shunted -/
set_option maxRecDepth 100000
def RX7 : String := "TrunkYards$Shunted"
def TX7 : u_T := fun k => match k with
  | 0 => ("TrunkYards$Shunted", "from", "I", true)
  | 1 => ("TrunkYards$Shunted", "to", "I", true)
  | _ => ("TrunkYards$Shunted", "many", "I", true)
def tyX7 : Nat → FieldType := fun k => match k with
  | 0 => .int
  | 1 => .int
  | _ => .int
abbrev wsX70 : List Cond := u_ws RX7 TX7 3
theorem nmX7 : ∀ a, a < 3 → ∀ b, b < 3 → a ≠ b → (TX7 a).2.1 ≠ (TX7 b).2.1 := by decide +kernel
theorem tyX7_ok : ∀ k, k < 3 → parseFieldDescriptor (TX7 k).2.2.1 = some (tyX7 k) := by decide +kernel
abbrev cX7_init : ByteArray := prog_10_method_1_code
def yX7_init : MethodName := ⟨RX7, "<init>", "(III)V"⟩
def dkwX7_init_0 : List UInt8 := [42, 183, 0, 1, 42, 27, 181, 0, 7, 42, 28, 181, 0, 13, 42, 29, 181, 0, 16, 177]
abbrev dktX7_init_0 : List UInt8 := dkwX7_init_0 ++ []
theorem dksX7_init_0 : cX7_init.data.toList.drop 0 = dktX7_init_0 := by decide +kernel
theorem dX7_init_0 : decode cX7_init 0 = .ok (.aload_n 0, 1) := dk_42 (dk_at dksX7_init_0 0 rfl rfl)
theorem dX7_init_1 : decode cX7_init 1 = .ok (.invokespecial 1, 3) := dk_183 0 1 (dk_at dksX7_init_0 1 rfl rfl)
theorem dX7_init_4 : decode cX7_init 4 = .ok (.aload_n 0, 1) := dk_42 (dk_at dksX7_init_0 4 rfl rfl)
theorem dX7_init_5 : decode cX7_init 5 = .ok (.iload_n 1, 1) := dk_27 (dk_at dksX7_init_0 5 rfl rfl)
theorem dX7_init_6 : decode cX7_init 6 = .ok (.putfield 7, 3) := dk_181 0 7 (dk_at dksX7_init_0 6 rfl rfl)
theorem dX7_init_9 : decode cX7_init 9 = .ok (.aload_n 0, 1) := dk_42 (dk_at dksX7_init_0 9 rfl rfl)
theorem dX7_init_10 : decode cX7_init 10 = .ok (.iload_n 2, 1) := dk_28 (dk_at dksX7_init_0 10 rfl rfl)
theorem dX7_init_11 : decode cX7_init 11 = .ok (.putfield 13, 3) := dk_181 0 13 (dk_at dksX7_init_0 11 rfl rfl)
theorem dX7_init_14 : decode cX7_init 14 = .ok (.aload_n 0, 1) := dk_42 (dk_at dksX7_init_0 14 rfl rfl)
theorem dX7_init_15 : decode cX7_init 15 = .ok (.iload_n 3, 1) := dk_29 (dk_at dksX7_init_0 15 rfl rfl)
theorem dX7_init_16 : decode cX7_init 16 = .ok (.putfield 16, 3) := dk_181 0 16 (dk_at dksX7_init_0 16 rfl rfl)
theorem dX7_init_19 : decode cX7_init 19 = .ok (.return_, 1) := dk_177 (dk_at dksX7_init_0 19 rfl rfl)
theorem q92 : (Jvm.Cond.initialized "TrunkYards$Shunted") ∈ lw_all := lw_g (lw_at lw_m1 44 rfl) rfl
theorem q262 : (Jvm.Cond.selects "TrunkYards$Shunted" ({ cls := "java/lang/Object", name := "getClass", desc := "()Ljava/lang/Class;" } : Jvm.MethodName) ({ cls := "java/lang/Object", name := "getClass", desc := "()Ljava/lang/Class;" } : Jvm.MethodName)) ∈ lw_all := lw_g (lw_at lw_m1 214 rfl) rfl
theorem q363 : (Jvm.Cond.selects "TrunkYards$Shunted" ({ cls := "java/lang/Object", name := "hashCode", desc := "()I" } : Jvm.MethodName) ({ cls := "java/lang/Object", name := "hashCode", desc := "()I" } : Jvm.MethodName)) ∈ lw_all := lw_g (lw_at lw_m2 75 rfl) rfl
theorem q1090 : (Jvm.Cond.selects "TrunkYards$Shunted" ({ cls := "java/lang/Object", name := "equals", desc := "(Ljava/lang/Object;)Z" } : Jvm.MethodName) ({ cls := "java/lang/Object", name := "equals", desc := "(Ljava/lang/Object;)Z" } : Jvm.MethodName)) ∈ lw_all := lw_g (lw_at lw_m5 82 rfl) rfl
theorem q1656 : (Jvm.Cond.instantiable "TrunkYards$Shunted" (3 : Nat)) ∈ lw_all := lw_g (lw_at lw_m7 168 rfl) rfl
theorem q1658 : (Jvm.Cond.instanceMethod ({ cls := "TrunkYards$Shunted", name := "<init>", desc := "(III)V" } : Jvm.MethodName)) ∈ lw_all := lw_g (lw_at lw_m7 170 rfl) rfl
theorem q1659 : (Jvm.Cond.code ({ cls := "TrunkYards$Shunted", name := "<init>", desc := "(III)V" } : Jvm.MethodName) prog_10_method_1_code (4 : Nat) (Option.none : Option Jvm.ClassFile.FieldType)) ∈ lw_all := lw_g (lw_at lw_m7 171 rfl) rfl
theorem q1660 : (Jvm.Cond.methodLink "TrunkYards$Shunted" (1 : Nat) ({ cls := "java/lang/Object", name := "<init>", desc := "()V" } : Jvm.MethodName)) ∈ lw_all := lw_g (lw_at lw_m7 172 rfl) rfl
theorem q1661 : (Jvm.Cond.fieldLink "TrunkYards$Shunted" (7 : Nat) "TrunkYards$Shunted" "from" "I") ∈ lw_all := lw_g (lw_at lw_m7 173 rfl) rfl
theorem q1663 : (Jvm.Cond.fieldLink "TrunkYards$Shunted" (13 : Nat) "TrunkYards$Shunted" "to" "I") ∈ lw_all := lw_g (lw_at lw_m7 175 rfl) rfl
theorem q1665 : (Jvm.Cond.fieldLink "TrunkYards$Shunted" (16 : Nat) "TrunkYards$Shunted" "many" "I") ∈ lw_all := lw_g (lw_at lw_m7 177 rfl) rfl
theorem q1667 : (Jvm.Cond.laysFinal "TrunkYards$Shunted" "TrunkYards$Shunted" "from" "I") ∈ lw_all := lw_g (lw_at lw_m7 179 rfl) rfl
theorem q1668 : (Jvm.Cond.soleField "TrunkYards$Shunted" "from") ∈ lw_all := lw_g (lw_at lw_m7 180 rfl) rfl
theorem q1669 : (Jvm.Cond.laysFinal "TrunkYards$Shunted" "TrunkYards$Shunted" "to" "I") ∈ lw_all := lw_g (lw_at lw_m7 181 rfl) rfl
theorem q1670 : (Jvm.Cond.soleField "TrunkYards$Shunted" "to") ∈ lw_all := lw_g (lw_at lw_m7 182 rfl) rfl
theorem q1671 : (Jvm.Cond.laysFinal "TrunkYards$Shunted" "TrunkYards$Shunted" "many" "I") ∈ lw_all := lw_g (lw_at lw_m7 183 rfl) rfl
theorem q1672 : (Jvm.Cond.soleField "TrunkYards$Shunted" "many") ∈ lw_all := lw_g (lw_at lw_m7 184 rfl) rfl
theorem q1673 : (Jvm.Cond.superclass "TrunkYards$Shunted" "java/lang/Object") ∈ lw_all := lw_g (lw_at lw_m7 185 rfl) rfl
theorem q2691 : (Jvm.Cond.castable "TrunkYards$Shunted" "TrunkYards$Event") ∈ lw_tbl := lw_at lw_m12 3 rfl
theorem q2709 : (Jvm.Cond.castable "TrunkYards$Shunted" "java/lang/Object") ∈ lw_tbl := lw_at lw_m12 21 rfl
theorem in_X7 : ∀ w ∈ wsX70, w ∈ lw_all := lw_in wsX70 [1667, 1669, 1671] (by decide +kernel) (by decide +kernel)

/-! TrunkYards$Replay -/
set_option maxRecDepth 100000
def RX8 : String := "TrunkYards$Replay"
def TX8 : u_T := fun k => match k with
  | 0 => ("TrunkYards$Replay", "rows", "[[I", true)
  | 1 => ("TrunkYards$Replay", "sizes", "[I", true)
  | 2 => ("TrunkYards$Replay", "trains", "[[I", true)
  | 3 => ("TrunkYards$Replay", "departed", "I", false)
  | _ => ("TrunkYards$Replay", "this$0", "LTrunkYards;", true)
def tyX8 : Nat → FieldType := fun k => match k with
  | 0 => .array (.array .int)
  | 1 => .array .int
  | 2 => .array (.array .int)
  | 3 => .int
  | _ => .object "TrunkYards"
abbrev wsX80 : List Cond := u_ws RX8 TX8 5
theorem nmX8 : ∀ a, a < 5 → ∀ b, b < 5 → a ≠ b → (TX8 a).2.1 ≠ (TX8 b).2.1 := by decide +kernel
theorem tyX8_ok : ∀ k, k < 5 → parseFieldDescriptor (TX8 k).2.2.1 = some (tyX8 k) := by decide +kernel
abbrev cX8_init : ByteArray := prog_9_method_1_code
def yX8_init : MethodName := ⟨RX8, "<init>", "(LTrunkYards;)V"⟩
def dkwX8_init_14 : List UInt8 := [180, 0, 88, 21, 11, 182, 0, 56, 132, 10, 1, 167, 255, 228, 132, 2, 1, 167, 254, 214, 177]
abbrev dktX8_init_14 : List UInt8 := dkwX8_init_14 ++ []
def dkwX8_init_13 : List UInt8 := [54, 9, 3, 54, 10, 21, 10, 21, 9, 162, 0, 27, 25, 8, 21, 10, 46, 54, 11, 42, 25, 7]
abbrev dktX8_init_13 : List UInt8 := dkwX8_init_13 ++ dktX8_init_14
def dkwX8_init_12 : List UInt8 := [153, 0, 60, 45, 192, 0, 83, 58, 7, 42, 180, 0, 35, 25, 7, 180, 0, 85, 50, 58, 8, 25, 8, 190]
abbrev dktX8_init_12 : List UInt8 := dkwX8_init_12 ++ dktX8_init_13
def dkwX8_init_11 : List UInt8 := [25, 6, 180, 0, 76, 3, 79, 42, 89, 180, 0, 73, 4, 96, 181, 0, 73, 167, 0, 67, 45, 193, 0, 83]
abbrev dktX8_init_11 : List UInt8 := dkwX8_init_11 ++ dktX8_init_12
def dkwX8_init_10 : List UInt8 := [42, 180, 0, 73, 50, 3, 42, 180, 0, 20, 25, 6, 180, 0, 76, 46, 184, 0, 77, 42, 180, 0, 20]
abbrev dktX8_init_10 : List UInt8 := dkwX8_init_10 ++ dktX8_init_11
def dkwX8_init_9 : List UInt8 := [25, 6, 180, 0, 76, 46, 188, 10, 83, 42, 180, 0, 17, 25, 6, 180, 0, 76, 50, 3, 42, 180, 0, 35]
abbrev dktX8_init_9 : List UInt8 := dkwX8_init_9 ++ dktX8_init_10
def dkwX8_init_8 : List UInt8 := [193, 0, 71, 153, 0, 88, 45, 192, 0, 71, 58, 6, 42, 180, 0, 35, 42, 180, 0, 73, 42, 180, 0, 20]
abbrev dktX8_init_8 : List UInt8 := dkwX8_init_8 ++ dktX8_init_9
def dkwX8_init_7 : List UInt8 := [25, 5, 180, 0, 62, 46, 21, 8, 96, 46, 182, 0, 56, 132, 8, 1, 167, 255, 210, 167, 0, 159, 45]
abbrev dktX8_init_7 : List UInt8 := dkwX8_init_7 ++ dktX8_init_8
def dkwX8_init_6 : List UInt8 := [162, 0, 42, 42, 25, 5, 180, 0, 68, 42, 180, 0, 17, 25, 5, 180, 0, 62, 50, 42, 180, 0, 20]
abbrev dktX8_init_6 : List UInt8 := dkwX8_init_6 ++ dktX8_init_7
def dkwX8_init_5 : List UInt8 := [25, 5, 180, 0, 62, 92, 46, 25, 5, 180, 0, 65, 100, 79, 3, 54, 8, 21, 8, 25, 5, 180, 0, 65]
abbrev dktX8_init_5 : List UInt8 := dkwX8_init_5 ++ dktX8_init_6
def dkwX8_init_4 : List UInt8 := [182, 0, 56, 167, 0, 245, 45, 193, 0, 60, 153, 0, 82, 45, 192, 0, 60, 58, 5, 42, 180, 0, 20]
abbrev dktX8_init_4 : List UInt8 := dkwX8_init_4 ++ dktX8_init_5
def dkwX8_init_3 : List UInt8 := [193, 0, 47, 153, 0, 26, 45, 192, 0, 47, 58, 4, 42, 25, 4, 180, 0, 49, 25, 4, 180, 0, 53]
abbrev dktX8_init_3 : List UInt8 := dkwX8_init_3 ++ dktX8_init_4
def dkwX8_init_2 : List UInt8 := [28, 43, 180, 0, 38, 182, 0, 28, 162, 1, 37, 43, 180, 0, 38, 28, 182, 0, 41, 192, 0, 45, 78, 45]
abbrev dktX8_init_2 : List UInt8 := dkwX8_init_2 ++ dktX8_init_3
def dkwX8_init_1 : List UInt8 := [188, 10, 181, 0, 20, 42, 42, 180, 0, 3, 180, 0, 24, 182, 0, 28, 189, 0, 34, 181, 0, 35, 3, 61]
abbrev dktX8_init_1 : List UInt8 := dkwX8_init_1 ++ dktX8_init_2
def dkwX8_init_0 : List UInt8 := [42, 43, 181, 0, 3, 42, 183, 0, 9, 42, 16, 15, 16, 6, 197, 0, 15, 2, 181, 0, 17, 42, 16, 15]
abbrev dktX8_init_0 : List UInt8 := dkwX8_init_0 ++ dktX8_init_1
theorem dksX8_init_0 : cX8_init.data.toList.drop 0 = dktX8_init_0 := by decide +kernel
theorem dksX8_init_1 : cX8_init.data.toList.drop 24 = dktX8_init_1 := dk_seg dksX8_init_0 24 rfl rfl
theorem dksX8_init_2 : cX8_init.data.toList.drop 48 = dktX8_init_2 := dk_seg dksX8_init_1 24 rfl rfl
theorem dksX8_init_3 : cX8_init.data.toList.drop 72 = dktX8_init_3 := dk_seg dksX8_init_2 24 rfl rfl
theorem dksX8_init_4 : cX8_init.data.toList.drop 95 = dktX8_init_4 := dk_seg dksX8_init_3 23 rfl rfl
theorem dksX8_init_5 : cX8_init.data.toList.drop 118 = dktX8_init_5 := dk_seg dksX8_init_4 23 rfl rfl
theorem dksX8_init_6 : cX8_init.data.toList.drop 142 = dktX8_init_6 := dk_seg dksX8_init_5 24 rfl rfl
theorem dksX8_init_7 : cX8_init.data.toList.drop 165 = dktX8_init_7 := dk_seg dksX8_init_6 23 rfl rfl
theorem dksX8_init_8 : cX8_init.data.toList.drop 188 = dktX8_init_8 := dk_seg dksX8_init_7 23 rfl rfl
theorem dksX8_init_9 : cX8_init.data.toList.drop 212 = dktX8_init_9 := dk_seg dksX8_init_8 24 rfl rfl
theorem dksX8_init_10 : cX8_init.data.toList.drop 236 = dktX8_init_10 := dk_seg dksX8_init_9 24 rfl rfl
theorem dksX8_init_11 : cX8_init.data.toList.drop 259 = dktX8_init_11 := dk_seg dksX8_init_10 23 rfl rfl
theorem dksX8_init_12 : cX8_init.data.toList.drop 283 = dktX8_init_12 := dk_seg dksX8_init_11 24 rfl rfl
theorem dksX8_init_13 : cX8_init.data.toList.drop 307 = dktX8_init_13 := dk_seg dksX8_init_12 24 rfl rfl
theorem dksX8_init_14 : cX8_init.data.toList.drop 329 = dktX8_init_14 := dk_seg dksX8_init_13 22 rfl rfl
theorem dX8_init_0 : decode cX8_init 0 = .ok (.aload_n 0, 1) := dk_42 (dk_at dksX8_init_0 0 rfl rfl)
theorem dX8_init_1 : decode cX8_init 1 = .ok (.aload_n 1, 1) := dk_43 (dk_at dksX8_init_0 1 rfl rfl)
theorem dX8_init_2 : decode cX8_init 2 = .ok (.putfield 3, 3) := dk_181 0 3 (dk_at dksX8_init_0 2 rfl rfl)
theorem dX8_init_5 : decode cX8_init 5 = .ok (.aload_n 0, 1) := dk_42 (dk_at dksX8_init_0 5 rfl rfl)
theorem dX8_init_6 : decode cX8_init 6 = .ok (.invokespecial 9, 3) := dk_183 0 9 (dk_at dksX8_init_0 6 rfl rfl)
theorem dX8_init_9 : decode cX8_init 9 = .ok (.aload_n 0, 1) := dk_42 (dk_at dksX8_init_0 9 rfl rfl)
theorem dX8_init_10 : decode cX8_init 10 = .ok (.bipush 15, 2) := dk_16 15 (dk_at dksX8_init_0 10 rfl rfl)
theorem dX8_init_12 : decode cX8_init 12 = .ok (.bipush 6, 2) := dk_16 6 (dk_at dksX8_init_0 12 rfl rfl)
theorem dX8_init_14 : decode cX8_init 14 = .ok (.multianewarray 15 2, 4) := by decide +kernel
theorem dX8_init_18 : decode cX8_init 18 = .ok (.putfield 17, 3) := dk_181 0 17 (dk_at dksX8_init_0 18 rfl rfl)
theorem dX8_init_21 : decode cX8_init 21 = .ok (.aload_n 0, 1) := dk_42 (dk_at dksX8_init_0 21 rfl rfl)
theorem dX8_init_22 : decode cX8_init 22 = .ok (.bipush 15, 2) := dk_16 15 (dk_at dksX8_init_0 22 rfl rfl)
theorem dX8_init_24 : decode cX8_init 24 = .ok (.newarray .int, 2) := dk_188_10 (dk_at dksX8_init_1 0 rfl rfl)
theorem dX8_init_26 : decode cX8_init 26 = .ok (.putfield 20, 3) := dk_181 0 20 (dk_at dksX8_init_1 2 rfl rfl)
theorem dX8_init_29 : decode cX8_init 29 = .ok (.aload_n 0, 1) := dk_42 (dk_at dksX8_init_1 5 rfl rfl)
theorem dX8_init_30 : decode cX8_init 30 = .ok (.aload_n 0, 1) := dk_42 (dk_at dksX8_init_1 6 rfl rfl)
theorem dX8_init_31 : decode cX8_init 31 = .ok (.getfield 3, 3) := dk_180 0 3 (dk_at dksX8_init_1 7 rfl rfl)
theorem dX8_init_34 : decode cX8_init 34 = .ok (.getfield 24, 3) := dk_180 0 24 (dk_at dksX8_init_1 10 rfl rfl)
theorem dX8_init_37 : decode cX8_init 37 = .ok (.invokevirtual 28, 3) := dk_182 0 28 (dk_at dksX8_init_1 13 rfl rfl)
theorem dX8_init_40 : decode cX8_init 40 = .ok (.anewarray 34, 3) := dk_189 0 34 (dk_at dksX8_init_1 16 rfl rfl)
theorem dX8_init_43 : decode cX8_init 43 = .ok (.putfield 35, 3) := dk_181 0 35 (dk_at dksX8_init_1 19 rfl rfl)
theorem dX8_init_46 : decode cX8_init 46 = .ok (.iconst 0, 1) := dk_3 (dk_at dksX8_init_1 22 rfl rfl)
theorem dX8_init_47 : decode cX8_init 47 = .ok (.istore_n 2, 1) := dk_61 (dk_at dksX8_init_1 23 rfl rfl)
theorem dX8_init_48 : decode cX8_init 48 = .ok (.iload_n 2, 1) := dk_28 (dk_at dksX8_init_2 0 rfl rfl)
theorem dX8_init_49 : decode cX8_init 49 = .ok (.aload_n 1, 1) := dk_43 (dk_at dksX8_init_2 1 rfl rfl)
theorem dX8_init_50 : decode cX8_init 50 = .ok (.getfield 38, 3) := dk_180 0 38 (dk_at dksX8_init_2 2 rfl rfl)
theorem dX8_init_53 : decode cX8_init 53 = .ok (.invokevirtual 28, 3) := dk_182 0 28 (dk_at dksX8_init_2 5 rfl rfl)
theorem dX8_init_56 : decode cX8_init 56 = .ok (.if_icmp .ge 293, 3) := dk_162 1 37 (dk_at dksX8_init_2 8 rfl rfl)
theorem dX8_init_59 : decode cX8_init 59 = .ok (.aload_n 1, 1) := dk_43 (dk_at dksX8_init_2 11 rfl rfl)
theorem dX8_init_60 : decode cX8_init 60 = .ok (.getfield 38, 3) := dk_180 0 38 (dk_at dksX8_init_2 12 rfl rfl)
theorem dX8_init_63 : decode cX8_init 63 = .ok (.iload_n 2, 1) := dk_28 (dk_at dksX8_init_2 15 rfl rfl)
theorem dX8_init_64 : decode cX8_init 64 = .ok (.invokevirtual 41, 3) := dk_182 0 41 (dk_at dksX8_init_2 16 rfl rfl)
theorem dX8_init_67 : decode cX8_init 67 = .ok (.checkcast 45, 3) := dk_192 0 45 (dk_at dksX8_init_2 19 rfl rfl)
theorem dX8_init_70 : decode cX8_init 70 = .ok (.astore_n 3, 1) := dk_78 (dk_at dksX8_init_2 22 rfl rfl)
theorem dX8_init_71 : decode cX8_init 71 = .ok (.aload_n 3, 1) := dk_45 (dk_at dksX8_init_2 23 rfl rfl)
theorem dX8_init_72 : decode cX8_init 72 = .ok (.instanceof 47, 3) := dk_193 0 47 (dk_at dksX8_init_3 0 rfl rfl)
theorem dX8_init_75 : decode cX8_init 75 = .ok (.ifCond .eq 26, 3) := dk_153 0 26 (dk_at dksX8_init_3 3 rfl rfl)
theorem dX8_init_78 : decode cX8_init 78 = .ok (.aload_n 3, 1) := dk_45 (dk_at dksX8_init_3 6 rfl rfl)
theorem dX8_init_79 : decode cX8_init 79 = .ok (.checkcast 47, 3) := dk_192 0 47 (dk_at dksX8_init_3 7 rfl rfl)
theorem dX8_init_82 : decode cX8_init 82 = .ok (.astore 4, 2) := dk_58 4 (dk_at dksX8_init_3 10 rfl rfl)
theorem dX8_init_84 : decode cX8_init 84 = .ok (.aload_n 0, 1) := dk_42 (dk_at dksX8_init_3 12 rfl rfl)
theorem dX8_init_85 : decode cX8_init 85 = .ok (.aload 4, 2) := dk_25 4 (dk_at dksX8_init_3 13 rfl rfl)
theorem dX8_init_87 : decode cX8_init 87 = .ok (.getfield 49, 3) := dk_180 0 49 (dk_at dksX8_init_3 15 rfl rfl)
theorem dX8_init_90 : decode cX8_init 90 = .ok (.aload 4, 2) := dk_25 4 (dk_at dksX8_init_3 18 rfl rfl)
theorem dX8_init_92 : decode cX8_init 92 = .ok (.getfield 53, 3) := dk_180 0 53 (dk_at dksX8_init_3 20 rfl rfl)
theorem dX8_init_95 : decode cX8_init 95 = .ok (.invokevirtual 56, 3) := dk_182 0 56 (dk_at dksX8_init_4 0 rfl rfl)
theorem dX8_init_98 : decode cX8_init 98 = .ok (.goto 245, 3) := dk_167 0 245 (dk_at dksX8_init_4 3 rfl rfl)
theorem dX8_init_101 : decode cX8_init 101 = .ok (.aload_n 3, 1) := dk_45 (dk_at dksX8_init_4 6 rfl rfl)
theorem dX8_init_102 : decode cX8_init 102 = .ok (.instanceof 60, 3) := dk_193 0 60 (dk_at dksX8_init_4 7 rfl rfl)
theorem dX8_init_105 : decode cX8_init 105 = .ok (.ifCond .eq 82, 3) := dk_153 0 82 (dk_at dksX8_init_4 10 rfl rfl)
theorem dX8_init_108 : decode cX8_init 108 = .ok (.aload_n 3, 1) := dk_45 (dk_at dksX8_init_4 13 rfl rfl)
theorem dX8_init_109 : decode cX8_init 109 = .ok (.checkcast 60, 3) := dk_192 0 60 (dk_at dksX8_init_4 14 rfl rfl)
theorem dX8_init_112 : decode cX8_init 112 = .ok (.astore 5, 2) := dk_58 5 (dk_at dksX8_init_4 17 rfl rfl)
theorem dX8_init_114 : decode cX8_init 114 = .ok (.aload_n 0, 1) := dk_42 (dk_at dksX8_init_4 19 rfl rfl)
theorem dX8_init_115 : decode cX8_init 115 = .ok (.getfield 20, 3) := dk_180 0 20 (dk_at dksX8_init_4 20 rfl rfl)
theorem dX8_init_118 : decode cX8_init 118 = .ok (.aload 5, 2) := dk_25 5 (dk_at dksX8_init_5 0 rfl rfl)
theorem dX8_init_120 : decode cX8_init 120 = .ok (.getfield 62, 3) := dk_180 0 62 (dk_at dksX8_init_5 2 rfl rfl)
theorem dX8_init_123 : decode cX8_init 123 = .ok (.dup2, 1) := dk_92 (dk_at dksX8_init_5 5 rfl rfl)
theorem dX8_init_124 : decode cX8_init 124 = .ok (.iaload, 1) := dk_46 (dk_at dksX8_init_5 6 rfl rfl)
theorem dX8_init_125 : decode cX8_init 125 = .ok (.aload 5, 2) := dk_25 5 (dk_at dksX8_init_5 7 rfl rfl)
theorem dX8_init_127 : decode cX8_init 127 = .ok (.getfield 65, 3) := dk_180 0 65 (dk_at dksX8_init_5 9 rfl rfl)
theorem dX8_init_130 : decode cX8_init 130 = .ok (.isub, 1) := dk_100 (dk_at dksX8_init_5 12 rfl rfl)
theorem dX8_init_131 : decode cX8_init 131 = .ok (.iastore, 1) := dk_79 (dk_at dksX8_init_5 13 rfl rfl)
theorem dX8_init_132 : decode cX8_init 132 = .ok (.iconst 0, 1) := dk_3 (dk_at dksX8_init_5 14 rfl rfl)
theorem dX8_init_133 : decode cX8_init 133 = .ok (.istore 8, 2) := dk_54 8 (dk_at dksX8_init_5 15 rfl rfl)
theorem dX8_init_135 : decode cX8_init 135 = .ok (.iload 8, 2) := dk_21 8 (dk_at dksX8_init_5 17 rfl rfl)
theorem dX8_init_137 : decode cX8_init 137 = .ok (.aload 5, 2) := dk_25 5 (dk_at dksX8_init_5 19 rfl rfl)
theorem dX8_init_139 : decode cX8_init 139 = .ok (.getfield 65, 3) := dk_180 0 65 (dk_at dksX8_init_5 21 rfl rfl)
theorem dX8_init_142 : decode cX8_init 142 = .ok (.if_icmp .ge 42, 3) := dk_162 0 42 (dk_at dksX8_init_6 0 rfl rfl)
theorem dX8_init_145 : decode cX8_init 145 = .ok (.aload_n 0, 1) := dk_42 (dk_at dksX8_init_6 3 rfl rfl)
theorem dX8_init_146 : decode cX8_init 146 = .ok (.aload 5, 2) := dk_25 5 (dk_at dksX8_init_6 4 rfl rfl)
theorem dX8_init_148 : decode cX8_init 148 = .ok (.getfield 68, 3) := dk_180 0 68 (dk_at dksX8_init_6 6 rfl rfl)
theorem dX8_init_151 : decode cX8_init 151 = .ok (.aload_n 0, 1) := dk_42 (dk_at dksX8_init_6 9 rfl rfl)
theorem dX8_init_152 : decode cX8_init 152 = .ok (.getfield 17, 3) := dk_180 0 17 (dk_at dksX8_init_6 10 rfl rfl)
theorem dX8_init_155 : decode cX8_init 155 = .ok (.aload 5, 2) := dk_25 5 (dk_at dksX8_init_6 13 rfl rfl)
theorem dX8_init_157 : decode cX8_init 157 = .ok (.getfield 62, 3) := dk_180 0 62 (dk_at dksX8_init_6 15 rfl rfl)
theorem dX8_init_160 : decode cX8_init 160 = .ok (.aaload, 1) := dk_50 (dk_at dksX8_init_6 18 rfl rfl)
theorem dX8_init_161 : decode cX8_init 161 = .ok (.aload_n 0, 1) := dk_42 (dk_at dksX8_init_6 19 rfl rfl)
theorem dX8_init_162 : decode cX8_init 162 = .ok (.getfield 20, 3) := dk_180 0 20 (dk_at dksX8_init_6 20 rfl rfl)
theorem dX8_init_165 : decode cX8_init 165 = .ok (.aload 5, 2) := dk_25 5 (dk_at dksX8_init_7 0 rfl rfl)
theorem dX8_init_167 : decode cX8_init 167 = .ok (.getfield 62, 3) := dk_180 0 62 (dk_at dksX8_init_7 2 rfl rfl)
theorem dX8_init_170 : decode cX8_init 170 = .ok (.iaload, 1) := dk_46 (dk_at dksX8_init_7 5 rfl rfl)
theorem dX8_init_171 : decode cX8_init 171 = .ok (.iload 8, 2) := dk_21 8 (dk_at dksX8_init_7 6 rfl rfl)
theorem dX8_init_173 : decode cX8_init 173 = .ok (.iadd, 1) := dk_96 (dk_at dksX8_init_7 8 rfl rfl)
theorem dX8_init_174 : decode cX8_init 174 = .ok (.iaload, 1) := dk_46 (dk_at dksX8_init_7 9 rfl rfl)
theorem dX8_init_175 : decode cX8_init 175 = .ok (.invokevirtual 56, 3) := dk_182 0 56 (dk_at dksX8_init_7 10 rfl rfl)
theorem dX8_init_178 : decode cX8_init 178 = .ok (.iinc 8 1, 3) := dk_132 8 1 (dk_at dksX8_init_7 13 rfl rfl)
theorem dX8_init_181 : decode cX8_init 181 = .ok (.goto (-46), 3) := dk_167 255 210 (dk_at dksX8_init_7 16 rfl rfl)
theorem dX8_init_184 : decode cX8_init 184 = .ok (.goto 159, 3) := dk_167 0 159 (dk_at dksX8_init_7 19 rfl rfl)
theorem dX8_init_187 : decode cX8_init 187 = .ok (.aload_n 3, 1) := dk_45 (dk_at dksX8_init_7 22 rfl rfl)
theorem dX8_init_188 : decode cX8_init 188 = .ok (.instanceof 71, 3) := dk_193 0 71 (dk_at dksX8_init_8 0 rfl rfl)
theorem dX8_init_191 : decode cX8_init 191 = .ok (.ifCond .eq 88, 3) := dk_153 0 88 (dk_at dksX8_init_8 3 rfl rfl)
theorem dX8_init_194 : decode cX8_init 194 = .ok (.aload_n 3, 1) := dk_45 (dk_at dksX8_init_8 6 rfl rfl)
theorem dX8_init_195 : decode cX8_init 195 = .ok (.checkcast 71, 3) := dk_192 0 71 (dk_at dksX8_init_8 7 rfl rfl)
theorem dX8_init_198 : decode cX8_init 198 = .ok (.astore 6, 2) := dk_58 6 (dk_at dksX8_init_8 10 rfl rfl)
theorem dX8_init_200 : decode cX8_init 200 = .ok (.aload_n 0, 1) := dk_42 (dk_at dksX8_init_8 12 rfl rfl)
theorem dX8_init_201 : decode cX8_init 201 = .ok (.getfield 35, 3) := dk_180 0 35 (dk_at dksX8_init_8 13 rfl rfl)
theorem dX8_init_204 : decode cX8_init 204 = .ok (.aload_n 0, 1) := dk_42 (dk_at dksX8_init_8 16 rfl rfl)
theorem dX8_init_205 : decode cX8_init 205 = .ok (.getfield 73, 3) := dk_180 0 73 (dk_at dksX8_init_8 17 rfl rfl)
theorem dX8_init_208 : decode cX8_init 208 = .ok (.aload_n 0, 1) := dk_42 (dk_at dksX8_init_8 20 rfl rfl)
theorem dX8_init_209 : decode cX8_init 209 = .ok (.getfield 20, 3) := dk_180 0 20 (dk_at dksX8_init_8 21 rfl rfl)
theorem dX8_init_212 : decode cX8_init 212 = .ok (.aload 6, 2) := dk_25 6 (dk_at dksX8_init_9 0 rfl rfl)
theorem dX8_init_214 : decode cX8_init 214 = .ok (.getfield 76, 3) := dk_180 0 76 (dk_at dksX8_init_9 2 rfl rfl)
theorem dX8_init_217 : decode cX8_init 217 = .ok (.iaload, 1) := dk_46 (dk_at dksX8_init_9 5 rfl rfl)
theorem dX8_init_218 : decode cX8_init 218 = .ok (.newarray .int, 2) := dk_188_10 (dk_at dksX8_init_9 6 rfl rfl)
theorem dX8_init_220 : decode cX8_init 220 = .ok (.aastore, 1) := dk_83 (dk_at dksX8_init_9 8 rfl rfl)
theorem dX8_init_221 : decode cX8_init 221 = .ok (.aload_n 0, 1) := dk_42 (dk_at dksX8_init_9 9 rfl rfl)
theorem dX8_init_222 : decode cX8_init 222 = .ok (.getfield 17, 3) := dk_180 0 17 (dk_at dksX8_init_9 10 rfl rfl)
theorem dX8_init_225 : decode cX8_init 225 = .ok (.aload 6, 2) := dk_25 6 (dk_at dksX8_init_9 13 rfl rfl)
theorem dX8_init_227 : decode cX8_init 227 = .ok (.getfield 76, 3) := dk_180 0 76 (dk_at dksX8_init_9 15 rfl rfl)
theorem dX8_init_230 : decode cX8_init 230 = .ok (.aaload, 1) := dk_50 (dk_at dksX8_init_9 18 rfl rfl)
theorem dX8_init_231 : decode cX8_init 231 = .ok (.iconst 0, 1) := dk_3 (dk_at dksX8_init_9 19 rfl rfl)
theorem dX8_init_232 : decode cX8_init 232 = .ok (.aload_n 0, 1) := dk_42 (dk_at dksX8_init_9 20 rfl rfl)
theorem dX8_init_233 : decode cX8_init 233 = .ok (.getfield 35, 3) := dk_180 0 35 (dk_at dksX8_init_9 21 rfl rfl)
theorem dX8_init_236 : decode cX8_init 236 = .ok (.aload_n 0, 1) := dk_42 (dk_at dksX8_init_10 0 rfl rfl)
theorem dX8_init_237 : decode cX8_init 237 = .ok (.getfield 73, 3) := dk_180 0 73 (dk_at dksX8_init_10 1 rfl rfl)
theorem dX8_init_240 : decode cX8_init 240 = .ok (.aaload, 1) := dk_50 (dk_at dksX8_init_10 4 rfl rfl)
theorem dX8_init_241 : decode cX8_init 241 = .ok (.iconst 0, 1) := dk_3 (dk_at dksX8_init_10 5 rfl rfl)
theorem dX8_init_242 : decode cX8_init 242 = .ok (.aload_n 0, 1) := dk_42 (dk_at dksX8_init_10 6 rfl rfl)
theorem dX8_init_243 : decode cX8_init 243 = .ok (.getfield 20, 3) := dk_180 0 20 (dk_at dksX8_init_10 7 rfl rfl)
theorem dX8_init_246 : decode cX8_init 246 = .ok (.aload 6, 2) := dk_25 6 (dk_at dksX8_init_10 10 rfl rfl)
theorem dX8_init_248 : decode cX8_init 248 = .ok (.getfield 76, 3) := dk_180 0 76 (dk_at dksX8_init_10 12 rfl rfl)
theorem dX8_init_251 : decode cX8_init 251 = .ok (.iaload, 1) := dk_46 (dk_at dksX8_init_10 15 rfl rfl)
theorem dX8_init_252 : decode cX8_init 252 = .ok (.invokestatic 77, 3) := dk_184 0 77 (dk_at dksX8_init_10 16 rfl rfl)
theorem dX8_init_255 : decode cX8_init 255 = .ok (.aload_n 0, 1) := dk_42 (dk_at dksX8_init_10 19 rfl rfl)
theorem dX8_init_256 : decode cX8_init 256 = .ok (.getfield 20, 3) := dk_180 0 20 (dk_at dksX8_init_10 20 rfl rfl)
theorem dX8_init_259 : decode cX8_init 259 = .ok (.aload 6, 2) := dk_25 6 (dk_at dksX8_init_11 0 rfl rfl)
theorem dX8_init_261 : decode cX8_init 261 = .ok (.getfield 76, 3) := dk_180 0 76 (dk_at dksX8_init_11 2 rfl rfl)
theorem dX8_init_264 : decode cX8_init 264 = .ok (.iconst 0, 1) := dk_3 (dk_at dksX8_init_11 5 rfl rfl)
theorem dX8_init_265 : decode cX8_init 265 = .ok (.iastore, 1) := dk_79 (dk_at dksX8_init_11 6 rfl rfl)
theorem dX8_init_266 : decode cX8_init 266 = .ok (.aload_n 0, 1) := dk_42 (dk_at dksX8_init_11 7 rfl rfl)
theorem dX8_init_267 : decode cX8_init 267 = .ok (.dup, 1) := dk_89 (dk_at dksX8_init_11 8 rfl rfl)
theorem dX8_init_268 : decode cX8_init 268 = .ok (.getfield 73, 3) := dk_180 0 73 (dk_at dksX8_init_11 9 rfl rfl)
theorem dX8_init_271 : decode cX8_init 271 = .ok (.iconst 1, 1) := dk_4 (dk_at dksX8_init_11 12 rfl rfl)
theorem dX8_init_272 : decode cX8_init 272 = .ok (.iadd, 1) := dk_96 (dk_at dksX8_init_11 13 rfl rfl)
theorem dX8_init_273 : decode cX8_init 273 = .ok (.putfield 73, 3) := dk_181 0 73 (dk_at dksX8_init_11 14 rfl rfl)
theorem dX8_init_276 : decode cX8_init 276 = .ok (.goto 67, 3) := dk_167 0 67 (dk_at dksX8_init_11 17 rfl rfl)
theorem dX8_init_279 : decode cX8_init 279 = .ok (.aload_n 3, 1) := dk_45 (dk_at dksX8_init_11 20 rfl rfl)
theorem dX8_init_280 : decode cX8_init 280 = .ok (.instanceof 83, 3) := dk_193 0 83 (dk_at dksX8_init_11 21 rfl rfl)
theorem dX8_init_283 : decode cX8_init 283 = .ok (.ifCond .eq 60, 3) := dk_153 0 60 (dk_at dksX8_init_12 0 rfl rfl)
theorem dX8_init_286 : decode cX8_init 286 = .ok (.aload_n 3, 1) := dk_45 (dk_at dksX8_init_12 3 rfl rfl)
theorem dX8_init_287 : decode cX8_init 287 = .ok (.checkcast 83, 3) := dk_192 0 83 (dk_at dksX8_init_12 4 rfl rfl)
theorem dX8_init_290 : decode cX8_init 290 = .ok (.astore 7, 2) := dk_58 7 (dk_at dksX8_init_12 7 rfl rfl)
theorem dX8_init_292 : decode cX8_init 292 = .ok (.aload_n 0, 1) := dk_42 (dk_at dksX8_init_12 9 rfl rfl)
theorem dX8_init_293 : decode cX8_init 293 = .ok (.getfield 35, 3) := dk_180 0 35 (dk_at dksX8_init_12 10 rfl rfl)
theorem dX8_init_296 : decode cX8_init 296 = .ok (.aload 7, 2) := dk_25 7 (dk_at dksX8_init_12 13 rfl rfl)
theorem dX8_init_298 : decode cX8_init 298 = .ok (.getfield 85, 3) := dk_180 0 85 (dk_at dksX8_init_12 15 rfl rfl)
theorem dX8_init_301 : decode cX8_init 301 = .ok (.aaload, 1) := dk_50 (dk_at dksX8_init_12 18 rfl rfl)
theorem dX8_init_302 : decode cX8_init 302 = .ok (.astore 8, 2) := dk_58 8 (dk_at dksX8_init_12 19 rfl rfl)
theorem dX8_init_304 : decode cX8_init 304 = .ok (.aload 8, 2) := dk_25 8 (dk_at dksX8_init_12 21 rfl rfl)
theorem dX8_init_306 : decode cX8_init 306 = .ok (.arraylength, 1) := dk_190 (dk_at dksX8_init_12 23 rfl rfl)
theorem dX8_init_307 : decode cX8_init 307 = .ok (.istore 9, 2) := dk_54 9 (dk_at dksX8_init_13 0 rfl rfl)
theorem dX8_init_309 : decode cX8_init 309 = .ok (.iconst 0, 1) := dk_3 (dk_at dksX8_init_13 2 rfl rfl)
theorem dX8_init_310 : decode cX8_init 310 = .ok (.istore 10, 2) := dk_54 10 (dk_at dksX8_init_13 3 rfl rfl)
theorem dX8_init_312 : decode cX8_init 312 = .ok (.iload 10, 2) := dk_21 10 (dk_at dksX8_init_13 5 rfl rfl)
theorem dX8_init_314 : decode cX8_init 314 = .ok (.iload 9, 2) := dk_21 9 (dk_at dksX8_init_13 7 rfl rfl)
theorem dX8_init_316 : decode cX8_init 316 = .ok (.if_icmp .ge 27, 3) := dk_162 0 27 (dk_at dksX8_init_13 9 rfl rfl)
theorem dX8_init_319 : decode cX8_init 319 = .ok (.aload 8, 2) := dk_25 8 (dk_at dksX8_init_13 12 rfl rfl)
theorem dX8_init_321 : decode cX8_init 321 = .ok (.iload 10, 2) := dk_21 10 (dk_at dksX8_init_13 14 rfl rfl)
theorem dX8_init_323 : decode cX8_init 323 = .ok (.iaload, 1) := dk_46 (dk_at dksX8_init_13 16 rfl rfl)
theorem dX8_init_324 : decode cX8_init 324 = .ok (.istore 11, 2) := dk_54 11 (dk_at dksX8_init_13 17 rfl rfl)
theorem dX8_init_326 : decode cX8_init 326 = .ok (.aload_n 0, 1) := dk_42 (dk_at dksX8_init_13 19 rfl rfl)
theorem dX8_init_327 : decode cX8_init 327 = .ok (.aload 7, 2) := dk_25 7 (dk_at dksX8_init_13 20 rfl rfl)
theorem dX8_init_329 : decode cX8_init 329 = .ok (.getfield 88, 3) := dk_180 0 88 (dk_at dksX8_init_14 0 rfl rfl)
theorem dX8_init_332 : decode cX8_init 332 = .ok (.iload 11, 2) := dk_21 11 (dk_at dksX8_init_14 3 rfl rfl)
theorem dX8_init_334 : decode cX8_init 334 = .ok (.invokevirtual 56, 3) := dk_182 0 56 (dk_at dksX8_init_14 5 rfl rfl)
theorem dX8_init_337 : decode cX8_init 337 = .ok (.iinc 10 1, 3) := dk_132 10 1 (dk_at dksX8_init_14 8 rfl rfl)
theorem dX8_init_340 : decode cX8_init 340 = .ok (.goto (-28), 3) := dk_167 255 228 (dk_at dksX8_init_14 11 rfl rfl)
theorem dX8_init_343 : decode cX8_init 343 = .ok (.iinc 2 1, 3) := dk_132 2 1 (dk_at dksX8_init_14 14 rfl rfl)
theorem dX8_init_346 : decode cX8_init 346 = .ok (.goto (-298), 3) := dk_167 254 214 (dk_at dksX8_init_14 17 rfl rfl)
theorem dX8_init_349 : decode cX8_init 349 = .ok (.return_, 1) := dk_177 (dk_at dksX8_init_14 20 rfl rfl)
abbrev cX8_put : ByteArray := prog_9_method_2_code
def yX8_put : MethodName := ⟨RX8, "put", "(II)V"⟩
def dkwX8_put_1 : List UInt8 := [177]
abbrev dktX8_put_1 : List UInt8 := dkwX8_put_1 ++ []
def dkwX8_put_0 : List UInt8 := [42, 180, 0, 17, 27, 50, 42, 180, 0, 20, 27, 46, 28, 79, 42, 180, 0, 20, 27, 92, 46, 4, 96, 79]
abbrev dktX8_put_0 : List UInt8 := dkwX8_put_0 ++ dktX8_put_1
theorem dksX8_put_0 : cX8_put.data.toList.drop 0 = dktX8_put_0 := by decide +kernel
theorem dksX8_put_1 : cX8_put.data.toList.drop 24 = dktX8_put_1 := dk_seg dksX8_put_0 24 rfl rfl
theorem dX8_put_0 : decode cX8_put 0 = .ok (.aload_n 0, 1) := dk_42 (dk_at dksX8_put_0 0 rfl rfl)
theorem dX8_put_1 : decode cX8_put 1 = .ok (.getfield 17, 3) := dk_180 0 17 (dk_at dksX8_put_0 1 rfl rfl)
theorem dX8_put_4 : decode cX8_put 4 = .ok (.iload_n 1, 1) := dk_27 (dk_at dksX8_put_0 4 rfl rfl)
theorem dX8_put_5 : decode cX8_put 5 = .ok (.aaload, 1) := dk_50 (dk_at dksX8_put_0 5 rfl rfl)
theorem dX8_put_6 : decode cX8_put 6 = .ok (.aload_n 0, 1) := dk_42 (dk_at dksX8_put_0 6 rfl rfl)
theorem dX8_put_7 : decode cX8_put 7 = .ok (.getfield 20, 3) := dk_180 0 20 (dk_at dksX8_put_0 7 rfl rfl)
theorem dX8_put_10 : decode cX8_put 10 = .ok (.iload_n 1, 1) := dk_27 (dk_at dksX8_put_0 10 rfl rfl)
theorem dX8_put_11 : decode cX8_put 11 = .ok (.iaload, 1) := dk_46 (dk_at dksX8_put_0 11 rfl rfl)
theorem dX8_put_12 : decode cX8_put 12 = .ok (.iload_n 2, 1) := dk_28 (dk_at dksX8_put_0 12 rfl rfl)
theorem dX8_put_13 : decode cX8_put 13 = .ok (.iastore, 1) := dk_79 (dk_at dksX8_put_0 13 rfl rfl)
theorem dX8_put_14 : decode cX8_put 14 = .ok (.aload_n 0, 1) := dk_42 (dk_at dksX8_put_0 14 rfl rfl)
theorem dX8_put_15 : decode cX8_put 15 = .ok (.getfield 20, 3) := dk_180 0 20 (dk_at dksX8_put_0 15 rfl rfl)
theorem dX8_put_18 : decode cX8_put 18 = .ok (.iload_n 1, 1) := dk_27 (dk_at dksX8_put_0 18 rfl rfl)
theorem dX8_put_19 : decode cX8_put 19 = .ok (.dup2, 1) := dk_92 (dk_at dksX8_put_0 19 rfl rfl)
theorem dX8_put_20 : decode cX8_put 20 = .ok (.iaload, 1) := dk_46 (dk_at dksX8_put_0 20 rfl rfl)
theorem dX8_put_21 : decode cX8_put 21 = .ok (.iconst 1, 1) := dk_4 (dk_at dksX8_put_0 21 rfl rfl)
theorem dX8_put_22 : decode cX8_put 22 = .ok (.iadd, 1) := dk_96 (dk_at dksX8_put_0 22 rfl rfl)
theorem dX8_put_23 : decode cX8_put 23 = .ok (.iastore, 1) := dk_79 (dk_at dksX8_put_0 23 rfl rfl)
theorem dX8_put_24 : decode cX8_put 24 = .ok (.return_, 1) := dk_177 (dk_at dksX8_put_1 0 rfl rfl)
theorem q94 : (Jvm.Cond.initialized "TrunkYards$Replay") ∈ lw_all := lw_g (lw_at lw_m1 46 rfl) rfl
theorem q261 : (Jvm.Cond.selects "TrunkYards$Replay" ({ cls := "java/lang/Object", name := "getClass", desc := "()Ljava/lang/Class;" } : Jvm.MethodName) ({ cls := "java/lang/Object", name := "getClass", desc := "()Ljava/lang/Class;" } : Jvm.MethodName)) ∈ lw_all := lw_g (lw_at lw_m1 213 rfl) rfl
theorem q362 : (Jvm.Cond.selects "TrunkYards$Replay" ({ cls := "java/lang/Object", name := "hashCode", desc := "()I" } : Jvm.MethodName) ({ cls := "java/lang/Object", name := "hashCode", desc := "()I" } : Jvm.MethodName)) ∈ lw_all := lw_g (lw_at lw_m2 74 rfl) rfl
theorem q1089 : (Jvm.Cond.selects "TrunkYards$Replay" ({ cls := "java/lang/Object", name := "equals", desc := "(Ljava/lang/Object;)Z" } : Jvm.MethodName) ({ cls := "java/lang/Object", name := "equals", desc := "(Ljava/lang/Object;)Z" } : Jvm.MethodName)) ∈ lw_all := lw_g (lw_at lw_m5 81 rfl) rfl
theorem q1203 : (Jvm.Cond.fieldLinkNest "TrunkYards$Replay" (24 : Nat) "TrunkYards" "sent" "Ljava/util/ArrayList;" "TrunkYards") ∈ lw_tbl := lw_at lw_m5 195 rfl
theorem q1205 : (Jvm.Cond.fieldLinkNest "TrunkYards$Replay" (38 : Nat) "TrunkYards" "events" "Ljava/util/ArrayList;" "TrunkYards") ∈ lw_tbl := lw_at lw_m5 197 rfl
theorem q1369 : (Jvm.Cond.fieldLinkNest "TrunkYards$Replay" (53 : Nat) "TrunkYards$Placed" "wagon" "I" "TrunkYards") ∈ lw_tbl := lw_at lw_m6 121 rfl
theorem q1371 : (Jvm.Cond.fieldLinkNest "TrunkYards$Replay" (49 : Nat) "TrunkYards$Placed" "track" "I" "TrunkYards") ∈ lw_tbl := lw_at lw_m6 123 rfl
theorem q1662 : (Jvm.Cond.fieldLinkNest "TrunkYards$Replay" (62 : Nat) "TrunkYards$Shunted" "from" "I" "TrunkYards") ∈ lw_tbl := lw_at lw_m7 174 rfl
theorem q1664 : (Jvm.Cond.fieldLinkNest "TrunkYards$Replay" (68 : Nat) "TrunkYards$Shunted" "to" "I" "TrunkYards") ∈ lw_tbl := lw_at lw_m7 176 rfl
theorem q1666 : (Jvm.Cond.fieldLinkNest "TrunkYards$Replay" (65 : Nat) "TrunkYards$Shunted" "many" "I" "TrunkYards") ∈ lw_tbl := lw_at lw_m7 178 rfl
theorem q1746 : (Jvm.Cond.instantiable "TrunkYards$Replay" (5 : Nat)) ∈ lw_all := lw_g (lw_at lw_m8 18 rfl) rfl
theorem q1748 : (Jvm.Cond.instanceMethod ({ cls := "TrunkYards$Replay", name := "<init>", desc := "(LTrunkYards;)V" } : Jvm.MethodName)) ∈ lw_all := lw_g (lw_at lw_m8 20 rfl) rfl
theorem q1749 : (Jvm.Cond.code ({ cls := "TrunkYards$Replay", name := "<init>", desc := "(LTrunkYards;)V" } : Jvm.MethodName) prog_9_method_1_code (12 : Nat) (Option.none : Option Jvm.ClassFile.FieldType)) ∈ lw_all := lw_g (lw_at lw_m8 21 rfl) rfl
theorem q1750 : (Jvm.Cond.methodLink "TrunkYards$Replay" (9 : Nat) ({ cls := "java/lang/Object", name := "<init>", desc := "()V" } : Jvm.MethodName)) ∈ lw_all := lw_g (lw_at lw_m8 22 rfl) rfl
theorem q1751 : (Jvm.Cond.classLink "TrunkYards$Replay" (15 : Nat) "[[I") ∈ lw_all := lw_g (lw_at lw_m8 23 rfl) rfl
theorem q1753 : (Jvm.Cond.methodLink "TrunkYards$Replay" (28 : Nat) ({ cls := "java/util/ArrayList", name := "size", desc := "()I" } : Jvm.MethodName)) ∈ lw_all := lw_g (lw_at lw_m8 25 rfl) rfl
theorem q1754 : (Jvm.Cond.classLink "TrunkYards$Replay" (34 : Nat) "[I") ∈ lw_all := lw_g (lw_at lw_m8 26 rfl) rfl
theorem q1755 : (Jvm.Cond.methodLink "TrunkYards$Replay" (41 : Nat) ({ cls := "java/util/ArrayList", name := "get", desc := "(I)Ljava/lang/Object;" } : Jvm.MethodName)) ∈ lw_all := lw_g (lw_at lw_m8 27 rfl) rfl
theorem q1756 : (Jvm.Cond.classLink "TrunkYards$Replay" (45 : Nat) "TrunkYards$Event") ∈ lw_all := lw_g (lw_at lw_m8 28 rfl) rfl
theorem q1757 : (Jvm.Cond.classLink "TrunkYards$Replay" (47 : Nat) "TrunkYards$Placed") ∈ lw_all := lw_g (lw_at lw_m8 29 rfl) rfl
theorem q1758 : (Jvm.Cond.methodLink "TrunkYards$Replay" (56 : Nat) ({ cls := "TrunkYards$Replay", name := "put", desc := "(II)V" } : Jvm.MethodName)) ∈ lw_all := lw_g (lw_at lw_m8 30 rfl) rfl
theorem q1759 : (Jvm.Cond.privateMethod ({ cls := "TrunkYards$Replay", name := "put", desc := "(II)V" } : Jvm.MethodName)) ∈ lw_tbl := lw_at lw_m8 31 rfl
theorem q1760 : (Jvm.Cond.instanceMethod ({ cls := "TrunkYards$Replay", name := "put", desc := "(II)V" } : Jvm.MethodName)) ∈ lw_all := lw_g (lw_at lw_m8 32 rfl) rfl
theorem q1761 : (Jvm.Cond.code ({ cls := "TrunkYards$Replay", name := "put", desc := "(II)V" } : Jvm.MethodName) prog_9_method_2_code (3 : Nat) (Option.none : Option Jvm.ClassFile.FieldType)) ∈ lw_all := lw_g (lw_at lw_m8 33 rfl) rfl
theorem q1762 : (Jvm.Cond.classLink "TrunkYards$Replay" (60 : Nat) "TrunkYards$Shunted") ∈ lw_all := lw_g (lw_at lw_m8 34 rfl) rfl
theorem q1763 : (Jvm.Cond.classLink "TrunkYards$Replay" (71 : Nat) "TrunkYards$Departed") ∈ lw_all := lw_g (lw_at lw_m8 35 rfl) rfl
theorem q1764 : (Jvm.Cond.methodLink "TrunkYards$Replay" (77 : Nat) ({ cls := "java/lang/System", name := "arraycopy", desc := "(Ljava/lang/Object;ILjava/lang/Object;II)V" } : Jvm.MethodName)) ∈ lw_all := lw_g (lw_at lw_m8 36 rfl) rfl
theorem q1765 : (Jvm.Cond.classLink "TrunkYards$Replay" (83 : Nat) "TrunkYards$Arrived") ∈ lw_all := lw_g (lw_at lw_m8 37 rfl) rfl
theorem q1766 : (Jvm.Cond.fieldLink "TrunkYards$Replay" (17 : Nat) "TrunkYards$Replay" "rows" "[[I") ∈ lw_all := lw_g (lw_at lw_m8 38 rfl) rfl
theorem q1768 : (Jvm.Cond.fieldLink "TrunkYards$Replay" (20 : Nat) "TrunkYards$Replay" "sizes" "[I") ∈ lw_all := lw_g (lw_at lw_m8 40 rfl) rfl
theorem q1770 : (Jvm.Cond.fieldLink "TrunkYards$Replay" (35 : Nat) "TrunkYards$Replay" "trains" "[[I") ∈ lw_all := lw_g (lw_at lw_m8 42 rfl) rfl
theorem q1771 : (Jvm.Cond.fieldLink "TrunkYards$Replay" (73 : Nat) "TrunkYards$Replay" "departed" "I") ∈ lw_all := lw_g (lw_at lw_m8 43 rfl) rfl
theorem q1772 : (Jvm.Cond.fieldLink "TrunkYards$Replay" (3 : Nat) "TrunkYards$Replay" "this$0" "LTrunkYards;") ∈ lw_all := lw_g (lw_at lw_m8 44 rfl) rfl
theorem q1773 : (Jvm.Cond.laysFinal "TrunkYards$Replay" "TrunkYards$Replay" "rows" "[[I") ∈ lw_all := lw_g (lw_at lw_m8 45 rfl) rfl
theorem q1774 : (Jvm.Cond.soleField "TrunkYards$Replay" "rows") ∈ lw_all := lw_g (lw_at lw_m8 46 rfl) rfl
theorem q1775 : (Jvm.Cond.laysFinal "TrunkYards$Replay" "TrunkYards$Replay" "sizes" "[I") ∈ lw_all := lw_g (lw_at lw_m8 47 rfl) rfl
theorem q1776 : (Jvm.Cond.soleField "TrunkYards$Replay" "sizes") ∈ lw_all := lw_g (lw_at lw_m8 48 rfl) rfl
theorem q1777 : (Jvm.Cond.laysFinal "TrunkYards$Replay" "TrunkYards$Replay" "trains" "[[I") ∈ lw_all := lw_g (lw_at lw_m8 49 rfl) rfl
theorem q1778 : (Jvm.Cond.soleField "TrunkYards$Replay" "trains") ∈ lw_all := lw_g (lw_at lw_m8 50 rfl) rfl
theorem q1779 : (Jvm.Cond.lays "TrunkYards$Replay" "TrunkYards$Replay" "departed" "I") ∈ lw_all := lw_g (lw_at lw_m8 51 rfl) rfl
theorem q1780 : (Jvm.Cond.soleField "TrunkYards$Replay" "departed") ∈ lw_all := lw_g (lw_at lw_m8 52 rfl) rfl
theorem q1781 : (Jvm.Cond.laysFinal "TrunkYards$Replay" "TrunkYards$Replay" "this$0" "LTrunkYards;") ∈ lw_all := lw_g (lw_at lw_m8 53 rfl) rfl
theorem q1782 : (Jvm.Cond.soleField "TrunkYards$Replay" "this$0") ∈ lw_all := lw_g (lw_at lw_m8 54 rfl) rfl
theorem q1783 : (Jvm.Cond.superclass "TrunkYards$Replay" "java/lang/Object") ∈ lw_all := lw_g (lw_at lw_m8 55 rfl) rfl
theorem q2312 : (Jvm.Cond.fieldLinkNest "TrunkYards$Replay" (76 : Nat) "TrunkYards$Departed" "track" "I" "TrunkYards") ∈ lw_tbl := lw_at lw_m10 104 rfl
theorem q2332 : (Jvm.Cond.fieldLinkNest "TrunkYards$Replay" (85 : Nat) "TrunkYards$Arrived" "train" "I" "TrunkYards") ∈ lw_tbl := lw_at lw_m10 124 rfl
theorem q2334 : (Jvm.Cond.fieldLinkNest "TrunkYards$Replay" (88 : Nat) "TrunkYards$Arrived" "track" "I" "TrunkYards") ∈ lw_tbl := lw_at lw_m10 126 rfl
theorem q2714 : (Jvm.Cond.castable "TrunkYards$Replay" "java/lang/Object") ∈ lw_tbl := lw_at lw_m12 26 rfl
theorem in_X8 : ∀ w ∈ wsX80, w ∈ lw_all := lw_in wsX80 [1773, 1775, 1777, 1779, 1781] (by decide +kernel) (by decide +kernel)

/-! TrunkYards$Call -/
set_option maxRecDepth 100000
def RX9 : String := "TrunkYards$Call"
def TX9 : u_T := fun k => match k with
  | 0 => ("TrunkYards$Call", "number", "I", true)
  | 1 => ("TrunkYards$Call", "customer", "I", true)
  | 2 => ("TrunkYards$Call", "yard", "I", true)
  | 3 => ("TrunkYards$Call", "over", "Ljava/util/ArrayList;", true)
  | 4 => ("TrunkYards$Call", "open", "LTrunkYards$Booking;", false)
  | _ => ("TrunkYards$Call", "goesOn", "Z", false)
def tyX9 : Nat → FieldType := fun k => match k with
  | 0 => .int
  | 1 => .int
  | 2 => .int
  | 3 => .object "java/util/ArrayList"
  | 4 => .object "TrunkYards$Booking"
  | _ => .boolean
abbrev wsX90 : List Cond := u_ws RX9 TX9 6
theorem nmX9 : ∀ a, a < 6 → ∀ b, b < 6 → a ≠ b → (TX9 a).2.1 ≠ (TX9 b).2.1 := by decide +kernel
theorem tyX9_ok : ∀ k, k < 6 → parseFieldDescriptor (TX9 k).2.2.1 = some (tyX9 k) := by decide +kernel
abbrev cX9_init : ByteArray := prog_4_method_1_code
def yX9_init : MethodName := ⟨RX9, "<init>", "(IIILjava/util/ArrayList;)V"⟩
def dkwX9_init_2 : List UInt8 := [25, 5, 185, 0, 39, 1, 0, 192, 0, 43, 58, 6, 25, 6, 42, 181, 0, 45, 167, 255, 228, 177]
abbrev dktX9_init_2 : List UInt8 := dkwX9_init_2 ++ []
def dkwX9_init_1 : List UInt8 := [42, 25, 4, 181, 0, 23, 25, 4, 182, 0, 27, 58, 5, 25, 5, 185, 0, 33, 1, 0, 153, 0, 24]
abbrev dktX9_init_1 : List UInt8 := dkwX9_init_1 ++ dktX9_init_2
def dkwX9_init_0 : List UInt8 := [42, 183, 0, 1, 42, 4, 181, 0, 7, 42, 27, 181, 0, 13, 42, 28, 181, 0, 17, 42, 29, 181, 0, 20]
abbrev dktX9_init_0 : List UInt8 := dkwX9_init_0 ++ dktX9_init_1
theorem dksX9_init_0 : cX9_init.data.toList.drop 0 = dktX9_init_0 := by decide +kernel
theorem dksX9_init_1 : cX9_init.data.toList.drop 24 = dktX9_init_1 := dk_seg dksX9_init_0 24 rfl rfl
theorem dksX9_init_2 : cX9_init.data.toList.drop 47 = dktX9_init_2 := dk_seg dksX9_init_1 23 rfl rfl
theorem dX9_init_0 : decode cX9_init 0 = .ok (.aload_n 0, 1) := dk_42 (dk_at dksX9_init_0 0 rfl rfl)
theorem dX9_init_1 : decode cX9_init 1 = .ok (.invokespecial 1, 3) := dk_183 0 1 (dk_at dksX9_init_0 1 rfl rfl)
theorem dX9_init_4 : decode cX9_init 4 = .ok (.aload_n 0, 1) := dk_42 (dk_at dksX9_init_0 4 rfl rfl)
theorem dX9_init_5 : decode cX9_init 5 = .ok (.iconst 1, 1) := dk_4 (dk_at dksX9_init_0 5 rfl rfl)
theorem dX9_init_6 : decode cX9_init 6 = .ok (.putfield 7, 3) := dk_181 0 7 (dk_at dksX9_init_0 6 rfl rfl)
theorem dX9_init_9 : decode cX9_init 9 = .ok (.aload_n 0, 1) := dk_42 (dk_at dksX9_init_0 9 rfl rfl)
theorem dX9_init_10 : decode cX9_init 10 = .ok (.iload_n 1, 1) := dk_27 (dk_at dksX9_init_0 10 rfl rfl)
theorem dX9_init_11 : decode cX9_init 11 = .ok (.putfield 13, 3) := dk_181 0 13 (dk_at dksX9_init_0 11 rfl rfl)
theorem dX9_init_14 : decode cX9_init 14 = .ok (.aload_n 0, 1) := dk_42 (dk_at dksX9_init_0 14 rfl rfl)
theorem dX9_init_15 : decode cX9_init 15 = .ok (.iload_n 2, 1) := dk_28 (dk_at dksX9_init_0 15 rfl rfl)
theorem dX9_init_16 : decode cX9_init 16 = .ok (.putfield 17, 3) := dk_181 0 17 (dk_at dksX9_init_0 16 rfl rfl)
theorem dX9_init_19 : decode cX9_init 19 = .ok (.aload_n 0, 1) := dk_42 (dk_at dksX9_init_0 19 rfl rfl)
theorem dX9_init_20 : decode cX9_init 20 = .ok (.iload_n 3, 1) := dk_29 (dk_at dksX9_init_0 20 rfl rfl)
theorem dX9_init_21 : decode cX9_init 21 = .ok (.putfield 20, 3) := dk_181 0 20 (dk_at dksX9_init_0 21 rfl rfl)
theorem dX9_init_24 : decode cX9_init 24 = .ok (.aload_n 0, 1) := dk_42 (dk_at dksX9_init_1 0 rfl rfl)
theorem dX9_init_25 : decode cX9_init 25 = .ok (.aload 4, 2) := dk_25 4 (dk_at dksX9_init_1 1 rfl rfl)
theorem dX9_init_27 : decode cX9_init 27 = .ok (.putfield 23, 3) := dk_181 0 23 (dk_at dksX9_init_1 3 rfl rfl)
theorem dX9_init_30 : decode cX9_init 30 = .ok (.aload 4, 2) := dk_25 4 (dk_at dksX9_init_1 6 rfl rfl)
theorem dX9_init_32 : decode cX9_init 32 = .ok (.invokevirtual 27, 3) := dk_182 0 27 (dk_at dksX9_init_1 8 rfl rfl)
theorem dX9_init_35 : decode cX9_init 35 = .ok (.astore 5, 2) := dk_58 5 (dk_at dksX9_init_1 11 rfl rfl)
theorem dX9_init_37 : decode cX9_init 37 = .ok (.aload 5, 2) := dk_25 5 (dk_at dksX9_init_1 13 rfl rfl)
theorem dX9_init_39 : decode cX9_init 39 = .ok (.invokeinterface 33 1, 5) := by decide +kernel
theorem dX9_init_44 : decode cX9_init 44 = .ok (.ifCond .eq 24, 3) := dk_153 0 24 (dk_at dksX9_init_1 20 rfl rfl)
theorem dX9_init_47 : decode cX9_init 47 = .ok (.aload 5, 2) := dk_25 5 (dk_at dksX9_init_2 0 rfl rfl)
theorem dX9_init_49 : decode cX9_init 49 = .ok (.invokeinterface 39 1, 5) := by decide +kernel
theorem dX9_init_54 : decode cX9_init 54 = .ok (.checkcast 43, 3) := dk_192 0 43 (dk_at dksX9_init_2 7 rfl rfl)
theorem dX9_init_57 : decode cX9_init 57 = .ok (.astore 6, 2) := dk_58 6 (dk_at dksX9_init_2 10 rfl rfl)
theorem dX9_init_59 : decode cX9_init 59 = .ok (.aload 6, 2) := dk_25 6 (dk_at dksX9_init_2 12 rfl rfl)
theorem dX9_init_61 : decode cX9_init 61 = .ok (.aload_n 0, 1) := dk_42 (dk_at dksX9_init_2 14 rfl rfl)
theorem dX9_init_62 : decode cX9_init 62 = .ok (.putfield 45, 3) := dk_181 0 45 (dk_at dksX9_init_2 15 rfl rfl)
theorem dX9_init_65 : decode cX9_init 65 = .ok (.goto (-28), 3) := dk_167 255 228 (dk_at dksX9_init_2 18 rfl rfl)
theorem dX9_init_68 : decode cX9_init 68 = .ok (.return_, 1) := dk_177 (dk_at dksX9_init_2 21 rfl rfl)
abbrev cX9_end : ByteArray := prog_4_method_2_code
def yX9_end : MethodName := ⟨RX9, "end", "()V"⟩
def dkwX9_end_1 : List UInt8 := [153, 0, 21, 43, 185, 0, 39, 1, 0, 192, 0, 43, 77, 44, 1, 181, 0, 45, 167, 255, 232, 177]
abbrev dktX9_end_1 : List UInt8 := dkwX9_end_1 ++ []
def dkwX9_end_0 : List UInt8 := [42, 3, 181, 0, 7, 42, 1, 181, 0, 49, 42, 180, 0, 23, 182, 0, 27, 76, 43, 185, 0, 33, 1, 0]
abbrev dktX9_end_0 : List UInt8 := dkwX9_end_0 ++ dktX9_end_1
theorem dksX9_end_0 : cX9_end.data.toList.drop 0 = dktX9_end_0 := by decide +kernel
theorem dksX9_end_1 : cX9_end.data.toList.drop 24 = dktX9_end_1 := dk_seg dksX9_end_0 24 rfl rfl
theorem dX9_end_0 : decode cX9_end 0 = .ok (.aload_n 0, 1) := dk_42 (dk_at dksX9_end_0 0 rfl rfl)
theorem dX9_end_1 : decode cX9_end 1 = .ok (.iconst 0, 1) := dk_3 (dk_at dksX9_end_0 1 rfl rfl)
theorem dX9_end_2 : decode cX9_end 2 = .ok (.putfield 7, 3) := dk_181 0 7 (dk_at dksX9_end_0 2 rfl rfl)
theorem dX9_end_5 : decode cX9_end 5 = .ok (.aload_n 0, 1) := dk_42 (dk_at dksX9_end_0 5 rfl rfl)
theorem dX9_end_6 : decode cX9_end 6 = .ok (.aconst_null, 1) := dk_1 (dk_at dksX9_end_0 6 rfl rfl)
theorem dX9_end_7 : decode cX9_end 7 = .ok (.putfield 49, 3) := dk_181 0 49 (dk_at dksX9_end_0 7 rfl rfl)
theorem dX9_end_10 : decode cX9_end 10 = .ok (.aload_n 0, 1) := dk_42 (dk_at dksX9_end_0 10 rfl rfl)
theorem dX9_end_11 : decode cX9_end 11 = .ok (.getfield 23, 3) := dk_180 0 23 (dk_at dksX9_end_0 11 rfl rfl)
theorem dX9_end_14 : decode cX9_end 14 = .ok (.invokevirtual 27, 3) := dk_182 0 27 (dk_at dksX9_end_0 14 rfl rfl)
theorem dX9_end_17 : decode cX9_end 17 = .ok (.astore_n 1, 1) := dk_76 (dk_at dksX9_end_0 17 rfl rfl)
theorem dX9_end_18 : decode cX9_end 18 = .ok (.aload_n 1, 1) := dk_43 (dk_at dksX9_end_0 18 rfl rfl)
theorem dX9_end_19 : decode cX9_end 19 = .ok (.invokeinterface 33 1, 5) := by decide +kernel
theorem dX9_end_24 : decode cX9_end 24 = .ok (.ifCond .eq 21, 3) := dk_153 0 21 (dk_at dksX9_end_1 0 rfl rfl)
theorem dX9_end_27 : decode cX9_end 27 = .ok (.aload_n 1, 1) := dk_43 (dk_at dksX9_end_1 3 rfl rfl)
theorem dX9_end_28 : decode cX9_end 28 = .ok (.invokeinterface 39 1, 5) := by decide +kernel
theorem dX9_end_33 : decode cX9_end 33 = .ok (.checkcast 43, 3) := dk_192 0 43 (dk_at dksX9_end_1 9 rfl rfl)
theorem dX9_end_36 : decode cX9_end 36 = .ok (.astore_n 2, 1) := dk_77 (dk_at dksX9_end_1 12 rfl rfl)
theorem dX9_end_37 : decode cX9_end 37 = .ok (.aload_n 2, 1) := dk_44 (dk_at dksX9_end_1 13 rfl rfl)
theorem dX9_end_38 : decode cX9_end 38 = .ok (.aconst_null, 1) := dk_1 (dk_at dksX9_end_1 14 rfl rfl)
theorem dX9_end_39 : decode cX9_end 39 = .ok (.putfield 45, 3) := dk_181 0 45 (dk_at dksX9_end_1 15 rfl rfl)
theorem dX9_end_42 : decode cX9_end 42 = .ok (.goto (-24), 3) := dk_167 255 232 (dk_at dksX9_end_1 18 rfl rfl)
theorem dX9_end_45 : decode cX9_end 45 = .ok (.return_, 1) := dk_177 (dk_at dksX9_end_1 21 rfl rfl)
theorem q96 : (Jvm.Cond.initialized "TrunkYards$Call") ∈ lw_all := lw_g (lw_at lw_m1 48 rfl) rfl
theorem q257 : (Jvm.Cond.selects "TrunkYards$Call" ({ cls := "java/lang/Object", name := "getClass", desc := "()Ljava/lang/Class;" } : Jvm.MethodName) ({ cls := "java/lang/Object", name := "getClass", desc := "()Ljava/lang/Class;" } : Jvm.MethodName)) ∈ lw_all := lw_g (lw_at lw_m1 209 rfl) rfl
theorem q330 : (Jvm.Cond.fieldLinkNest "TrunkYards$Call" (45 : Nat) "TrunkYards$Trunk" "call" "LTrunkYards$Call;" "TrunkYards") ∈ lw_tbl := lw_at lw_m2 42 rfl
theorem q356 : (Jvm.Cond.selects "TrunkYards$Call" ({ cls := "java/lang/Object", name := "hashCode", desc := "()I" } : Jvm.MethodName) ({ cls := "java/lang/Object", name := "hashCode", desc := "()I" } : Jvm.MethodName)) ∈ lw_all := lw_g (lw_at lw_m2 68 rfl) rfl
theorem q1082 : (Jvm.Cond.selects "TrunkYards$Call" ({ cls := "java/lang/Object", name := "equals", desc := "(Ljava/lang/Object;)Z" } : Jvm.MethodName) ({ cls := "java/lang/Object", name := "equals", desc := "(Ljava/lang/Object;)Z" } : Jvm.MethodName)) ∈ lw_all := lw_g (lw_at lw_m5 74 rfl) rfl
theorem q1877 : (Jvm.Cond.instantiable "TrunkYards$Call" (6 : Nat)) ∈ lw_all := lw_g (lw_at lw_m8 149 rfl) rfl
theorem q1879 : (Jvm.Cond.instanceMethod ({ cls := "TrunkYards$Call", name := "<init>", desc := "(IIILjava/util/ArrayList;)V" } : Jvm.MethodName)) ∈ lw_all := lw_g (lw_at lw_m8 151 rfl) rfl
theorem q1880 : (Jvm.Cond.code ({ cls := "TrunkYards$Call", name := "<init>", desc := "(IIILjava/util/ArrayList;)V" } : Jvm.MethodName) prog_4_method_1_code (7 : Nat) (Option.none : Option Jvm.ClassFile.FieldType)) ∈ lw_all := lw_g (lw_at lw_m8 152 rfl) rfl
theorem q1881 : (Jvm.Cond.methodLink "TrunkYards$Call" (1 : Nat) ({ cls := "java/lang/Object", name := "<init>", desc := "()V" } : Jvm.MethodName)) ∈ lw_all := lw_g (lw_at lw_m8 153 rfl) rfl
theorem q1882 : (Jvm.Cond.methodLink "TrunkYards$Call" (27 : Nat) ({ cls := "java/util/ArrayList", name := "iterator", desc := "()Ljava/util/Iterator;" } : Jvm.MethodName)) ∈ lw_all := lw_g (lw_at lw_m8 154 rfl) rfl
theorem q1883 : (Jvm.Cond.interfaceEntry "TrunkYards$Call" (33 : Nat)) ∈ lw_tbl := lw_at lw_m8 155 rfl
theorem q1884 : (Jvm.Cond.methodLink "TrunkYards$Call" (33 : Nat) ({ cls := "java/util/Iterator", name := "hasNext", desc := "()Z" } : Jvm.MethodName)) ∈ lw_all := lw_g (lw_at lw_m8 156 rfl) rfl
theorem q1885 : (Jvm.Cond.interfaceEntry "TrunkYards$Call" (39 : Nat)) ∈ lw_tbl := lw_at lw_m8 157 rfl
theorem q1886 : (Jvm.Cond.methodLink "TrunkYards$Call" (39 : Nat) ({ cls := "java/util/Iterator", name := "next", desc := "()Ljava/lang/Object;" } : Jvm.MethodName)) ∈ lw_all := lw_g (lw_at lw_m8 158 rfl) rfl
theorem q1887 : (Jvm.Cond.classLink "TrunkYards$Call" (43 : Nat) "TrunkYards$Trunk") ∈ lw_all := lw_g (lw_at lw_m8 159 rfl) rfl
theorem q1888 : (Jvm.Cond.fieldLink "TrunkYards$Call" (13 : Nat) "TrunkYards$Call" "number" "I") ∈ lw_all := lw_g (lw_at lw_m8 160 rfl) rfl
theorem q1890 : (Jvm.Cond.fieldLink "TrunkYards$Call" (17 : Nat) "TrunkYards$Call" "customer" "I") ∈ lw_all := lw_g (lw_at lw_m8 162 rfl) rfl
theorem q1892 : (Jvm.Cond.fieldLink "TrunkYards$Call" (20 : Nat) "TrunkYards$Call" "yard" "I") ∈ lw_all := lw_g (lw_at lw_m8 164 rfl) rfl
theorem q1894 : (Jvm.Cond.fieldLink "TrunkYards$Call" (23 : Nat) "TrunkYards$Call" "over" "Ljava/util/ArrayList;") ∈ lw_all := lw_g (lw_at lw_m8 166 rfl) rfl
theorem q1896 : (Jvm.Cond.fieldLink "TrunkYards$Call" (49 : Nat) "TrunkYards$Call" "open" "LTrunkYards$Booking;") ∈ lw_all := lw_g (lw_at lw_m8 168 rfl) rfl
theorem q1898 : (Jvm.Cond.fieldLink "TrunkYards$Call" (7 : Nat) "TrunkYards$Call" "goesOn" "Z") ∈ lw_all := lw_g (lw_at lw_m8 170 rfl) rfl
theorem q1900 : (Jvm.Cond.laysFinal "TrunkYards$Call" "TrunkYards$Call" "number" "I") ∈ lw_all := lw_g (lw_at lw_m8 172 rfl) rfl
theorem q1901 : (Jvm.Cond.soleField "TrunkYards$Call" "number") ∈ lw_all := lw_g (lw_at lw_m8 173 rfl) rfl
theorem q1902 : (Jvm.Cond.laysFinal "TrunkYards$Call" "TrunkYards$Call" "customer" "I") ∈ lw_all := lw_g (lw_at lw_m8 174 rfl) rfl
theorem q1903 : (Jvm.Cond.soleField "TrunkYards$Call" "customer") ∈ lw_all := lw_g (lw_at lw_m8 175 rfl) rfl
theorem q1904 : (Jvm.Cond.laysFinal "TrunkYards$Call" "TrunkYards$Call" "yard" "I") ∈ lw_all := lw_g (lw_at lw_m8 176 rfl) rfl
theorem q1905 : (Jvm.Cond.soleField "TrunkYards$Call" "yard") ∈ lw_all := lw_g (lw_at lw_m8 177 rfl) rfl
theorem q1906 : (Jvm.Cond.laysFinal "TrunkYards$Call" "TrunkYards$Call" "over" "Ljava/util/ArrayList;") ∈ lw_all := lw_g (lw_at lw_m8 178 rfl) rfl
theorem q1907 : (Jvm.Cond.soleField "TrunkYards$Call" "over") ∈ lw_all := lw_g (lw_at lw_m8 179 rfl) rfl
theorem q1908 : (Jvm.Cond.lays "TrunkYards$Call" "TrunkYards$Call" "open" "LTrunkYards$Booking;") ∈ lw_all := lw_g (lw_at lw_m8 180 rfl) rfl
theorem q1909 : (Jvm.Cond.soleField "TrunkYards$Call" "open") ∈ lw_all := lw_g (lw_at lw_m8 181 rfl) rfl
theorem q1910 : (Jvm.Cond.lays "TrunkYards$Call" "TrunkYards$Call" "goesOn" "Z") ∈ lw_all := lw_g (lw_at lw_m8 182 rfl) rfl
theorem q1911 : (Jvm.Cond.soleField "TrunkYards$Call" "goesOn") ∈ lw_all := lw_g (lw_at lw_m8 183 rfl) rfl
theorem q1912 : (Jvm.Cond.superclass "TrunkYards$Call" "java/lang/Object") ∈ lw_all := lw_g (lw_at lw_m8 184 rfl) rfl
theorem q2041 : (Jvm.Cond.instanceMethod ({ cls := "TrunkYards$Call", name := "end", desc := "()V" } : Jvm.MethodName)) ∈ lw_all := lw_g (lw_at lw_m9 73 rfl) rfl
theorem q2042 : (Jvm.Cond.selects "TrunkYards$Call" ({ cls := "TrunkYards$Call", name := "end", desc := "()V" } : Jvm.MethodName) ({ cls := "TrunkYards$Call", name := "end", desc := "()V" } : Jvm.MethodName)) ∈ lw_all := lw_g (lw_at lw_m9 74 rfl) rfl
theorem q2043 : (Jvm.Cond.code ({ cls := "TrunkYards$Call", name := "end", desc := "()V" } : Jvm.MethodName) prog_4_method_2_code (3 : Nat) (Option.none : Option Jvm.ClassFile.FieldType)) ∈ lw_all := lw_g (lw_at lw_m9 75 rfl) rfl
theorem q2718 : (Jvm.Cond.castable "TrunkYards$Call" "java/lang/Object") ∈ lw_tbl := lw_at lw_m12 30 rfl
theorem in_X9 : ∀ w ∈ wsX90, w ∈ lw_all := lw_in wsX90 [1900, 1902, 1904, 1906, 1908, 1910] (by decide +kernel) (by decide +kernel)

/-! TrunkYards$Booking -/
set_option maxRecDepth 100000
def RX10 : String := "TrunkYards$Booking"
def TX10 : u_T := fun k => match k with
  | 0 => ("TrunkYards$Booking", "number", "I", true)
  | 1 => ("TrunkYards$Booking", "customer", "I", true)
  | 2 => ("TrunkYards$Booking", "yard", "I", true)
  | 3 => ("TrunkYards$Booking", "grain", "I", true)
  | 4 => ("TrunkYards$Booking", "wagons", "Ljava/util/ArrayList;", true)
  | 5 => ("TrunkYards$Booking", "state", "LTrunkYards$State;", false)
  | _ => ("TrunkYards$Booking", "deadline", "I", false)
def tyX10 : Nat → FieldType := fun k => match k with
  | 0 => .int
  | 1 => .int
  | 2 => .int
  | 3 => .int
  | 4 => .object "java/util/ArrayList"
  | 5 => .object "TrunkYards$State"
  | _ => .int
abbrev wsX100 : List Cond := u_ws RX10 TX10 7
theorem nmX10 : ∀ a, a < 7 → ∀ b, b < 7 → a ≠ b → (TX10 a).2.1 ≠ (TX10 b).2.1 := by decide +kernel
theorem tyX10_ok : ∀ k, k < 7 → parseFieldDescriptor (TX10 k).2.2.1 = some (tyX10 k) := by decide +kernel
abbrev cX10_init : ByteArray := prog_3_method_1_code
def yX10_init : MethodName := ⟨RX10, "<init>", "(IIII)V"⟩
def dkwX10_init_1 : List UInt8 := [181, 0, 25, 42, 28, 181, 0, 29, 42, 29, 181, 0, 32, 42, 21, 4, 181, 0, 35, 177]
abbrev dktX10_init_1 : List UInt8 := dkwX10_init_1 ++ []
def dkwX10_init_0 : List UInt8 := [42, 183, 0, 1, 42, 187, 0, 7, 89, 183, 0, 9, 181, 0, 10, 42, 178, 0, 16, 181, 0, 22, 42, 27]
abbrev dktX10_init_0 : List UInt8 := dkwX10_init_0 ++ dktX10_init_1
theorem dksX10_init_0 : cX10_init.data.toList.drop 0 = dktX10_init_0 := by decide +kernel
theorem dksX10_init_1 : cX10_init.data.toList.drop 24 = dktX10_init_1 := dk_seg dksX10_init_0 24 rfl rfl
theorem dX10_init_0 : decode cX10_init 0 = .ok (.aload_n 0, 1) := dk_42 (dk_at dksX10_init_0 0 rfl rfl)
theorem dX10_init_1 : decode cX10_init 1 = .ok (.invokespecial 1, 3) := dk_183 0 1 (dk_at dksX10_init_0 1 rfl rfl)
theorem dX10_init_4 : decode cX10_init 4 = .ok (.aload_n 0, 1) := dk_42 (dk_at dksX10_init_0 4 rfl rfl)
theorem dX10_init_5 : decode cX10_init 5 = .ok (.new 7, 3) := dk_187 0 7 (dk_at dksX10_init_0 5 rfl rfl)
theorem dX10_init_8 : decode cX10_init 8 = .ok (.dup, 1) := dk_89 (dk_at dksX10_init_0 8 rfl rfl)
theorem dX10_init_9 : decode cX10_init 9 = .ok (.invokespecial 9, 3) := dk_183 0 9 (dk_at dksX10_init_0 9 rfl rfl)
theorem dX10_init_12 : decode cX10_init 12 = .ok (.putfield 10, 3) := dk_181 0 10 (dk_at dksX10_init_0 12 rfl rfl)
theorem dX10_init_15 : decode cX10_init 15 = .ok (.aload_n 0, 1) := dk_42 (dk_at dksX10_init_0 15 rfl rfl)
theorem dX10_init_16 : decode cX10_init 16 = .ok (.getstatic 16, 3) := dk_178 0 16 (dk_at dksX10_init_0 16 rfl rfl)
theorem dX10_init_19 : decode cX10_init 19 = .ok (.putfield 22, 3) := dk_181 0 22 (dk_at dksX10_init_0 19 rfl rfl)
theorem dX10_init_22 : decode cX10_init 22 = .ok (.aload_n 0, 1) := dk_42 (dk_at dksX10_init_0 22 rfl rfl)
theorem dX10_init_23 : decode cX10_init 23 = .ok (.iload_n 1, 1) := dk_27 (dk_at dksX10_init_0 23 rfl rfl)
theorem dX10_init_24 : decode cX10_init 24 = .ok (.putfield 25, 3) := dk_181 0 25 (dk_at dksX10_init_1 0 rfl rfl)
theorem dX10_init_27 : decode cX10_init 27 = .ok (.aload_n 0, 1) := dk_42 (dk_at dksX10_init_1 3 rfl rfl)
theorem dX10_init_28 : decode cX10_init 28 = .ok (.iload_n 2, 1) := dk_28 (dk_at dksX10_init_1 4 rfl rfl)
theorem dX10_init_29 : decode cX10_init 29 = .ok (.putfield 29, 3) := dk_181 0 29 (dk_at dksX10_init_1 5 rfl rfl)
theorem dX10_init_32 : decode cX10_init 32 = .ok (.aload_n 0, 1) := dk_42 (dk_at dksX10_init_1 8 rfl rfl)
theorem dX10_init_33 : decode cX10_init 33 = .ok (.iload_n 3, 1) := dk_29 (dk_at dksX10_init_1 9 rfl rfl)
theorem dX10_init_34 : decode cX10_init 34 = .ok (.putfield 32, 3) := dk_181 0 32 (dk_at dksX10_init_1 10 rfl rfl)
theorem dX10_init_37 : decode cX10_init 37 = .ok (.aload_n 0, 1) := dk_42 (dk_at dksX10_init_1 13 rfl rfl)
theorem dX10_init_38 : decode cX10_init 38 = .ok (.iload 4, 2) := dk_21 4 (dk_at dksX10_init_1 14 rfl rfl)
theorem dX10_init_40 : decode cX10_init 40 = .ok (.putfield 35, 3) := dk_181 0 35 (dk_at dksX10_init_1 16 rfl rfl)
theorem dX10_init_43 : decode cX10_init 43 = .ok (.return_, 1) := dk_177 (dk_at dksX10_init_1 19 rfl rfl)
abbrev cX10_become : ByteArray := prog_3_method_2_code
def yX10_become : MethodName := ⟨RX10, "become", "(LTrunkYards$State;)I"⟩
def dkwX10_become_2 : List UInt8 := [181, 0, 57, 167, 255, 221, 42, 180, 0, 10, 182, 0, 61, 172]
abbrev dktX10_become_2 : List UInt8 := dkwX10_become_2 ++ []
def dkwX10_become_1 : List UInt8 := [185, 0, 48, 1, 0, 192, 0, 52, 78, 45, 43, 182, 0, 54, 153, 0, 7, 42, 167, 0, 4, 1]
abbrev dktX10_become_1 : List UInt8 := dkwX10_become_1 ++ dktX10_become_2
def dkwX10_become_0 : List UInt8 := [42, 43, 181, 0, 22, 42, 180, 0, 10, 182, 0, 38, 77, 44, 185, 0, 42, 1, 0, 153, 0, 32, 44]
abbrev dktX10_become_0 : List UInt8 := dkwX10_become_0 ++ dktX10_become_1
theorem dksX10_become_0 : cX10_become.data.toList.drop 0 = dktX10_become_0 := by decide +kernel
theorem dksX10_become_1 : cX10_become.data.toList.drop 23 = dktX10_become_1 := dk_seg dksX10_become_0 23 rfl rfl
theorem dksX10_become_2 : cX10_become.data.toList.drop 45 = dktX10_become_2 := dk_seg dksX10_become_1 22 rfl rfl
theorem dX10_become_0 : decode cX10_become 0 = .ok (.aload_n 0, 1) := dk_42 (dk_at dksX10_become_0 0 rfl rfl)
theorem dX10_become_1 : decode cX10_become 1 = .ok (.aload_n 1, 1) := dk_43 (dk_at dksX10_become_0 1 rfl rfl)
theorem dX10_become_2 : decode cX10_become 2 = .ok (.putfield 22, 3) := dk_181 0 22 (dk_at dksX10_become_0 2 rfl rfl)
theorem dX10_become_5 : decode cX10_become 5 = .ok (.aload_n 0, 1) := dk_42 (dk_at dksX10_become_0 5 rfl rfl)
theorem dX10_become_6 : decode cX10_become 6 = .ok (.getfield 10, 3) := dk_180 0 10 (dk_at dksX10_become_0 6 rfl rfl)
theorem dX10_become_9 : decode cX10_become 9 = .ok (.invokevirtual 38, 3) := dk_182 0 38 (dk_at dksX10_become_0 9 rfl rfl)
theorem dX10_become_12 : decode cX10_become 12 = .ok (.astore_n 2, 1) := dk_77 (dk_at dksX10_become_0 12 rfl rfl)
theorem dX10_become_13 : decode cX10_become 13 = .ok (.aload_n 2, 1) := dk_44 (dk_at dksX10_become_0 13 rfl rfl)
theorem dX10_become_14 : decode cX10_become 14 = .ok (.invokeinterface 42 1, 5) := by decide +kernel
theorem dX10_become_19 : decode cX10_become 19 = .ok (.ifCond .eq 32, 3) := dk_153 0 32 (dk_at dksX10_become_0 19 rfl rfl)
theorem dX10_become_22 : decode cX10_become 22 = .ok (.aload_n 2, 1) := dk_44 (dk_at dksX10_become_0 22 rfl rfl)
theorem dX10_become_23 : decode cX10_become 23 = .ok (.invokeinterface 48 1, 5) := by decide +kernel
theorem dX10_become_28 : decode cX10_become 28 = .ok (.checkcast 52, 3) := dk_192 0 52 (dk_at dksX10_become_1 5 rfl rfl)
theorem dX10_become_31 : decode cX10_become 31 = .ok (.astore_n 3, 1) := dk_78 (dk_at dksX10_become_1 8 rfl rfl)
theorem dX10_become_32 : decode cX10_become 32 = .ok (.aload_n 3, 1) := dk_45 (dk_at dksX10_become_1 9 rfl rfl)
theorem dX10_become_33 : decode cX10_become 33 = .ok (.aload_n 1, 1) := dk_43 (dk_at dksX10_become_1 10 rfl rfl)
theorem dX10_become_34 : decode cX10_become 34 = .ok (.invokevirtual 54, 3) := dk_182 0 54 (dk_at dksX10_become_1 11 rfl rfl)
theorem dX10_become_37 : decode cX10_become 37 = .ok (.ifCond .eq 7, 3) := dk_153 0 7 (dk_at dksX10_become_1 14 rfl rfl)
theorem dX10_become_40 : decode cX10_become 40 = .ok (.aload_n 0, 1) := dk_42 (dk_at dksX10_become_1 17 rfl rfl)
theorem dX10_become_41 : decode cX10_become 41 = .ok (.goto 4, 3) := dk_167 0 4 (dk_at dksX10_become_1 18 rfl rfl)
theorem dX10_become_44 : decode cX10_become 44 = .ok (.aconst_null, 1) := dk_1 (dk_at dksX10_become_1 21 rfl rfl)
theorem dX10_become_45 : decode cX10_become 45 = .ok (.putfield 57, 3) := dk_181 0 57 (dk_at dksX10_become_2 0 rfl rfl)
theorem dX10_become_48 : decode cX10_become 48 = .ok (.goto (-35), 3) := dk_167 255 221 (dk_at dksX10_become_2 3 rfl rfl)
theorem dX10_become_51 : decode cX10_become 51 = .ok (.aload_n 0, 1) := dk_42 (dk_at dksX10_become_2 6 rfl rfl)
theorem dX10_become_52 : decode cX10_become 52 = .ok (.getfield 10, 3) := dk_180 0 10 (dk_at dksX10_become_2 7 rfl rfl)
theorem dX10_become_55 : decode cX10_become 55 = .ok (.invokevirtual 61, 3) := dk_182 0 61 (dk_at dksX10_become_2 10 rfl rfl)
theorem dX10_become_58 : decode cX10_become 58 = .ok (.ireturn, 1) := dk_172 (dk_at dksX10_become_2 13 rfl rfl)
theorem q97 : (Jvm.Cond.initialized "TrunkYards$Booking") ∈ lw_all := lw_g (lw_at lw_m1 49 rfl) rfl
theorem q256 : (Jvm.Cond.selects "TrunkYards$Booking" ({ cls := "java/lang/Object", name := "getClass", desc := "()Ljava/lang/Class;" } : Jvm.MethodName) ({ cls := "java/lang/Object", name := "getClass", desc := "()Ljava/lang/Class;" } : Jvm.MethodName)) ∈ lw_all := lw_g (lw_at lw_m1 208 rfl) rfl
theorem q355 : (Jvm.Cond.selects "TrunkYards$Booking" ({ cls := "java/lang/Object", name := "hashCode", desc := "()I" } : Jvm.MethodName) ({ cls := "java/lang/Object", name := "hashCode", desc := "()I" } : Jvm.MethodName)) ∈ lw_all := lw_g (lw_at lw_m2 67 rfl) rfl
theorem q1081 : (Jvm.Cond.selects "TrunkYards$Booking" ({ cls := "java/lang/Object", name := "equals", desc := "(Ljava/lang/Object;)Z" } : Jvm.MethodName) ({ cls := "java/lang/Object", name := "equals", desc := "(Ljava/lang/Object;)Z" } : Jvm.MethodName)) ∈ lw_all := lw_g (lw_at lw_m5 73 rfl) rfl
theorem q1322 : (Jvm.Cond.fieldLinkNest "TrunkYards$Booking" (57 : Nat) "TrunkYards$Wagon" "booking" "LTrunkYards$Booking;" "TrunkYards") ∈ lw_tbl := lw_at lw_m6 74 rfl
theorem q1934 : (Jvm.Cond.instantiable "TrunkYards$Booking" (7 : Nat)) ∈ lw_all := lw_g (lw_at lw_m8 206 rfl) rfl
theorem q1936 : (Jvm.Cond.instanceMethod ({ cls := "TrunkYards$Booking", name := "<init>", desc := "(IIII)V" } : Jvm.MethodName)) ∈ lw_all := lw_g (lw_at lw_m8 208 rfl) rfl
theorem q1937 : (Jvm.Cond.code ({ cls := "TrunkYards$Booking", name := "<init>", desc := "(IIII)V" } : Jvm.MethodName) prog_3_method_1_code (5 : Nat) (Option.none : Option Jvm.ClassFile.FieldType)) ∈ lw_all := lw_g (lw_at lw_m8 209 rfl) rfl
theorem q1938 : (Jvm.Cond.methodLink "TrunkYards$Booking" (1 : Nat) ({ cls := "java/lang/Object", name := "<init>", desc := "()V" } : Jvm.MethodName)) ∈ lw_all := lw_g (lw_at lw_m8 210 rfl) rfl
theorem q1939 : (Jvm.Cond.classLink "TrunkYards$Booking" (7 : Nat) "java/util/ArrayList") ∈ lw_all := lw_g (lw_at lw_m8 211 rfl) rfl
theorem q1940 : (Jvm.Cond.methodLink "TrunkYards$Booking" (9 : Nat) ({ cls := "java/util/ArrayList", name := "<init>", desc := "()V" } : Jvm.MethodName)) ∈ lw_all := lw_g (lw_at lw_m8 212 rfl) rfl
theorem q1941 : (Jvm.Cond.fieldLink "TrunkYards$Booking" (16 : Nat) "TrunkYards$State" "OPEN" "LTrunkYards$State;") ∈ lw_all := lw_g (lw_at lw_m8 213 rfl) rfl
theorem q1943 : (Jvm.Cond.fieldLink "TrunkYards$Booking" (25 : Nat) "TrunkYards$Booking" "number" "I") ∈ lw_all := lw_g (lw_at lw_m8 215 rfl) rfl
theorem q1945 : (Jvm.Cond.fieldLink "TrunkYards$Booking" (29 : Nat) "TrunkYards$Booking" "customer" "I") ∈ lw_all := lw_g (lw_at lw_m8 217 rfl) rfl
theorem q1947 : (Jvm.Cond.fieldLink "TrunkYards$Booking" (32 : Nat) "TrunkYards$Booking" "yard" "I") ∈ lw_all := lw_g (lw_at lw_m8 219 rfl) rfl
theorem q1949 : (Jvm.Cond.fieldLink "TrunkYards$Booking" (35 : Nat) "TrunkYards$Booking" "grain" "I") ∈ lw_all := lw_g (lw_at lw_m8 221 rfl) rfl
theorem q1951 : (Jvm.Cond.fieldLink "TrunkYards$Booking" (10 : Nat) "TrunkYards$Booking" "wagons" "Ljava/util/ArrayList;") ∈ lw_all := lw_g (lw_at lw_m8 223 rfl) rfl
theorem q1953 : (Jvm.Cond.fieldLink "TrunkYards$Booking" (22 : Nat) "TrunkYards$Booking" "state" "LTrunkYards$State;") ∈ lw_all := lw_g (lw_at lw_m8 225 rfl) rfl
theorem q1956 : (Jvm.Cond.laysFinal "TrunkYards$Booking" "TrunkYards$Booking" "number" "I") ∈ lw_all := lw_g (lw_at lw_m8 228 rfl) rfl
theorem q1957 : (Jvm.Cond.soleField "TrunkYards$Booking" "number") ∈ lw_all := lw_g (lw_at lw_m8 229 rfl) rfl
theorem q1958 : (Jvm.Cond.laysFinal "TrunkYards$Booking" "TrunkYards$Booking" "customer" "I") ∈ lw_all := lw_g (lw_at lw_m8 230 rfl) rfl
theorem q1959 : (Jvm.Cond.soleField "TrunkYards$Booking" "customer") ∈ lw_all := lw_g (lw_at lw_m8 231 rfl) rfl
theorem q1960 : (Jvm.Cond.laysFinal "TrunkYards$Booking" "TrunkYards$Booking" "yard" "I") ∈ lw_all := lw_g (lw_at lw_m8 232 rfl) rfl
theorem q1961 : (Jvm.Cond.soleField "TrunkYards$Booking" "yard") ∈ lw_all := lw_g (lw_at lw_m8 233 rfl) rfl
theorem q1962 : (Jvm.Cond.laysFinal "TrunkYards$Booking" "TrunkYards$Booking" "grain" "I") ∈ lw_all := lw_g (lw_at lw_m8 234 rfl) rfl
theorem q1963 : (Jvm.Cond.soleField "TrunkYards$Booking" "grain") ∈ lw_all := lw_g (lw_at lw_m8 235 rfl) rfl
theorem q1964 : (Jvm.Cond.laysFinal "TrunkYards$Booking" "TrunkYards$Booking" "wagons" "Ljava/util/ArrayList;") ∈ lw_all := lw_g (lw_at lw_m8 236 rfl) rfl
theorem q1965 : (Jvm.Cond.soleField "TrunkYards$Booking" "wagons") ∈ lw_all := lw_g (lw_at lw_m8 237 rfl) rfl
theorem q1966 : (Jvm.Cond.lays "TrunkYards$Booking" "TrunkYards$Booking" "state" "LTrunkYards$State;") ∈ lw_all := lw_g (lw_at lw_m8 238 rfl) rfl
theorem q1967 : (Jvm.Cond.soleField "TrunkYards$Booking" "state") ∈ lw_all := lw_g (lw_at lw_m8 239 rfl) rfl
theorem q1968 : (Jvm.Cond.lays "TrunkYards$Booking" "TrunkYards$Booking" "deadline" "I") ∈ lw_all := lw_g (lw_at lw_m9 0 rfl) rfl
theorem q1969 : (Jvm.Cond.soleField "TrunkYards$Booking" "deadline") ∈ lw_all := lw_g (lw_at lw_m9 1 rfl) rfl
theorem q1970 : (Jvm.Cond.superclass "TrunkYards$Booking" "java/lang/Object") ∈ lw_all := lw_g (lw_at lw_m9 2 rfl) rfl
theorem q1985 : (Jvm.Cond.instanceMethod ({ cls := "TrunkYards$Booking", name := "become", desc := "(LTrunkYards$State;)I" } : Jvm.MethodName)) ∈ lw_all := lw_g (lw_at lw_m9 17 rfl) rfl
theorem q1986 : (Jvm.Cond.selects "TrunkYards$Booking" ({ cls := "TrunkYards$Booking", name := "become", desc := "(LTrunkYards$State;)I" } : Jvm.MethodName) ({ cls := "TrunkYards$Booking", name := "become", desc := "(LTrunkYards$State;)I" } : Jvm.MethodName)) ∈ lw_all := lw_g (lw_at lw_m9 18 rfl) rfl
theorem q1987 : (Jvm.Cond.code ({ cls := "TrunkYards$Booking", name := "become", desc := "(LTrunkYards$State;)I" } : Jvm.MethodName) prog_3_method_2_code (4 : Nat) (Option.some Jvm.ClassFile.FieldType.int)) ∈ lw_all := lw_g (lw_at lw_m9 19 rfl) rfl
theorem q1988 : (Jvm.Cond.methodLink "TrunkYards$Booking" (38 : Nat) ({ cls := "java/util/ArrayList", name := "iterator", desc := "()Ljava/util/Iterator;" } : Jvm.MethodName)) ∈ lw_all := lw_g (lw_at lw_m9 20 rfl) rfl
theorem q1989 : (Jvm.Cond.interfaceEntry "TrunkYards$Booking" (42 : Nat)) ∈ lw_tbl := lw_at lw_m9 21 rfl
theorem q1990 : (Jvm.Cond.methodLink "TrunkYards$Booking" (42 : Nat) ({ cls := "java/util/Iterator", name := "hasNext", desc := "()Z" } : Jvm.MethodName)) ∈ lw_all := lw_g (lw_at lw_m9 22 rfl) rfl
theorem q1991 : (Jvm.Cond.interfaceEntry "TrunkYards$Booking" (48 : Nat)) ∈ lw_tbl := lw_at lw_m9 23 rfl
theorem q1992 : (Jvm.Cond.methodLink "TrunkYards$Booking" (48 : Nat) ({ cls := "java/util/Iterator", name := "next", desc := "()Ljava/lang/Object;" } : Jvm.MethodName)) ∈ lw_all := lw_g (lw_at lw_m9 24 rfl) rfl
theorem q1993 : (Jvm.Cond.classLink "TrunkYards$Booking" (52 : Nat) "TrunkYards$Wagon") ∈ lw_all := lw_g (lw_at lw_m9 25 rfl) rfl
theorem q1994 : (Jvm.Cond.methodLink "TrunkYards$Booking" (54 : Nat) ({ cls := "TrunkYards$State", name := "promises", desc := "()Z" } : Jvm.MethodName)) ∈ lw_all := lw_g (lw_at lw_m9 26 rfl) rfl
theorem q2006 : (Jvm.Cond.methodLink "TrunkYards$Booking" (61 : Nat) ({ cls := "java/util/ArrayList", name := "size", desc := "()I" } : Jvm.MethodName)) ∈ lw_all := lw_g (lw_at lw_m9 38 rfl) rfl
theorem q2719 : (Jvm.Cond.castable "TrunkYards$Booking" "java/lang/Object") ∈ lw_tbl := lw_at lw_m12 31 rfl
theorem in_X10 : ∀ w ∈ wsX100, w ∈ lw_all := lw_in wsX100 [1956, 1958, 1960, 1962, 1964, 1966, 1968] (by decide +kernel) (by decide +kernel)

/-! TrunkYards$State -/
set_option maxRecDepth 100000
def RX11 : String := "TrunkYards$State"
abbrev cX11_promises : ByteArray := prog_11_method_4_code
def yX11_promises : MethodName := ⟨RX11, "promises", "()Z"⟩
theorem dX11_promises_0 : decode cX11_promises 0 = .ok (.iconst 1, 1) := by decide +kernel
theorem dX11_promises_1 : decode cX11_promises 1 = .ok (.ireturn, 1) := by decide +kernel
abbrev cX11_canDepart : ByteArray := prog_11_method_5_code
def yX11_canDepart : MethodName := ⟨RX11, "canDepart", "()Z"⟩
theorem dX11_canDepart_0 : decode cX11_canDepart 0 = .ok (.iconst 0, 1) := by decide +kernel
theorem dX11_canDepart_1 : decode cX11_canDepart 1 = .ok (.ireturn, 1) := by decide +kernel
theorem q99 : (Jvm.Cond.initialized "TrunkYards$State") ∈ lw_all := lw_g (lw_at lw_m1 51 rfl) rfl
theorem q263 : (Jvm.Cond.selects "TrunkYards$State" ({ cls := "java/lang/Object", name := "getClass", desc := "()Ljava/lang/Class;" } : Jvm.MethodName) ({ cls := "java/lang/Object", name := "getClass", desc := "()Ljava/lang/Class;" } : Jvm.MethodName)) ∈ lw_all := lw_g (lw_at lw_m1 215 rfl) rfl
theorem q364 : (Jvm.Cond.selects "TrunkYards$State" ({ cls := "java/lang/Object", name := "hashCode", desc := "()I" } : Jvm.MethodName) ({ cls := "java/lang/Enum", name := "hashCode", desc := "()I" } : Jvm.MethodName)) ∈ lw_all := lw_g (lw_at lw_m2 76 rfl) rfl
theorem q838 : (Jvm.Cond.castable "TrunkYards$State" "java/lang/Comparable") ∈ lw_tbl := lw_at lw_m4 70 rfl
theorem q839 : (Jvm.Cond.selects "TrunkYards$State" ({ cls := "java/lang/Comparable", name := "compareTo", desc := "(Ljava/lang/Object;)I" } : Jvm.MethodName) ({ cls := "java/lang/Enum", name := "compareTo", desc := "(Ljava/lang/Object;)I" } : Jvm.MethodName)) ∈ lw_all := lw_g (lw_at lw_m4 71 rfl) rfl
theorem q840 : (Jvm.Cond.unhidden "TrunkYards$State" "compareTo" "(Ljava/lang/Object;)I") ∈ lw_tbl := lw_at lw_m4 72 rfl
theorem q848 : (Jvm.Cond.selects "TrunkYards$State" ({ cls := "java/lang/Enum", name := "compareTo", desc := "(Ljava/lang/Enum;)I" } : Jvm.MethodName) ({ cls := "java/lang/Enum", name := "compareTo", desc := "(Ljava/lang/Enum;)I" } : Jvm.MethodName)) ∈ lw_all := lw_g (lw_at lw_m4 80 rfl) rfl
theorem q857 : (Jvm.Cond.selects "TrunkYards$State" ({ cls := "java/lang/Enum", name := "getDeclaringClass", desc := "()Ljava/lang/Class;" } : Jvm.MethodName) ({ cls := "java/lang/Enum", name := "getDeclaringClass", desc := "()Ljava/lang/Class;" } : Jvm.MethodName)) ∈ lw_all := lw_g (lw_at lw_m4 89 rfl) rfl
theorem q1091 : (Jvm.Cond.selects "TrunkYards$State" ({ cls := "java/lang/Object", name := "equals", desc := "(Ljava/lang/Object;)Z" } : Jvm.MethodName) ({ cls := "java/lang/Enum", name := "equals", desc := "(Ljava/lang/Object;)Z" } : Jvm.MethodName)) ∈ lw_all := lw_g (lw_at lw_m5 83 rfl) rfl
theorem q1942 : (Jvm.Cond.laysStatic "TrunkYards$State" "OPEN" "LTrunkYards$State;") ∈ lw_tbl := lw_at lw_m8 214 rfl
theorem q1983 : (Jvm.Cond.laysStatic "TrunkYards$State" "FIRM" "LTrunkYards$State;") ∈ lw_tbl := lw_at lw_m9 15 rfl
theorem q1995 : (Jvm.Cond.instanceMethod ({ cls := "TrunkYards$State", name := "promises", desc := "()Z" } : Jvm.MethodName)) ∈ lw_all := lw_g (lw_at lw_m9 27 rfl) rfl
theorem q1996 : (Jvm.Cond.selects "TrunkYards$State" ({ cls := "TrunkYards$State", name := "promises", desc := "()Z" } : Jvm.MethodName) ({ cls := "TrunkYards$State", name := "promises", desc := "()Z" } : Jvm.MethodName)) ∈ lw_all := lw_g (lw_at lw_m9 28 rfl) rfl
theorem q1997 : (Jvm.Cond.sameMethod "TrunkYards$State" "TrunkYards$State" "promises" "()Z") ∈ lw_all := lw_g (lw_at lw_m9 29 rfl) rfl
theorem q2005 : (Jvm.Cond.code ({ cls := "TrunkYards$State", name := "promises", desc := "()Z" } : Jvm.MethodName) prog_11_method_4_code (1 : Nat) (Option.some Jvm.ClassFile.FieldType.boolean)) ∈ lw_all := lw_g (lw_at lw_m9 37 rfl) rfl
theorem q2019 : (Jvm.Cond.laysStatic "TrunkYards$State" "HALF" "LTrunkYards$State;") ∈ lw_tbl := lw_at lw_m9 51 rfl
theorem q2032 : (Jvm.Cond.laysStatic "TrunkYards$State" "VOID" "LTrunkYards$State;") ∈ lw_tbl := lw_at lw_m9 64 rfl
theorem q2105 : (Jvm.Cond.sameMethod "TrunkYards$State" "java/lang/Enum" "ordinal" "()I") ∈ lw_all := lw_g (lw_at lw_m9 137 rfl) rfl
theorem q2107 : (Jvm.Cond.selects "TrunkYards$State" ({ cls := "TrunkYards$State", name := "ordinal", desc := "()I" } : Jvm.MethodName) ({ cls := "java/lang/Enum", name := "ordinal", desc := "()I" } : Jvm.MethodName)) ∈ lw_all := lw_g (lw_at lw_m9 139 rfl) rfl
theorem q2226 : (Jvm.Cond.instanceMethod ({ cls := "TrunkYards$State", name := "canDepart", desc := "()Z" } : Jvm.MethodName)) ∈ lw_all := lw_g (lw_at lw_m10 18 rfl) rfl
theorem q2227 : (Jvm.Cond.selects "TrunkYards$State" ({ cls := "TrunkYards$State", name := "canDepart", desc := "()Z" } : Jvm.MethodName) ({ cls := "TrunkYards$State", name := "canDepart", desc := "()Z" } : Jvm.MethodName)) ∈ lw_all := lw_g (lw_at lw_m10 19 rfl) rfl
theorem q2228 : (Jvm.Cond.sameMethod "TrunkYards$State" "TrunkYards$State" "canDepart" "()Z") ∈ lw_all := lw_g (lw_at lw_m10 20 rfl) rfl
theorem q2234 : (Jvm.Cond.code ({ cls := "TrunkYards$State", name := "canDepart", desc := "()Z" } : Jvm.MethodName) prog_11_method_5_code (1 : Nat) (Option.some Jvm.ClassFile.FieldType.boolean)) ∈ lw_all := lw_g (lw_at lw_m10 26 rfl) rfl
theorem q2239 : (Jvm.Cond.laysStatic "TrunkYards$State" "UNDER_WAY" "LTrunkYards$State;") ∈ lw_tbl := lw_at lw_m10 31 rfl
theorem q2324 : (Jvm.Cond.laysStatic "TrunkYards$State" "DONE" "LTrunkYards$State;") ∈ lw_tbl := lw_at lw_m10 116 rfl
theorem q2683 : (Jvm.Cond.castable "TrunkYards$State" "java/lang/Enum") ∈ lw_tbl := lw_at lw_m11 235 rfl
theorem q2720 : (Jvm.Cond.castable "TrunkYards$State" "java/lang/Object") ∈ lw_tbl := lw_at lw_m12 32 rfl

/-! TrunkYards$Train -/
set_option maxRecDepth 100000
def RX12 : String := "TrunkYards$Train"
def TX12 : u_T := fun k => match k with
  | 0 => ("TrunkYards$Train", "wagons", "Ljava/util/LinkedList;", true)
  | 1 => ("TrunkYards$Train", "to", "I", true)
  | _ => ("TrunkYards$Train", "hasArrived", "Z", false)
def tyX12 : Nat → FieldType := fun k => match k with
  | 0 => .object "java/util/LinkedList"
  | 1 => .int
  | _ => .boolean
abbrev wsX120 : List Cond := u_ws RX12 TX12 3
theorem nmX12 : ∀ a, a < 3 → ∀ b, b < 3 → a ≠ b → (TX12 a).2.1 ≠ (TX12 b).2.1 := by decide +kernel
theorem tyX12_ok : ∀ k, k < 3 → parseFieldDescriptor (TX12 k).2.2.1 = some (tyX12 k) := by decide +kernel
abbrev cX12_init : ByteArray := prog_15_method_1_code
def yX12_init : MethodName := ⟨RX12, "<init>", "(Ljava/util/LinkedList;I)V"⟩
def dkwX12_init_0 : List UInt8 := [42, 183, 0, 1, 42, 43, 181, 0, 7, 42, 28, 181, 0, 13, 177]
abbrev dktX12_init_0 : List UInt8 := dkwX12_init_0 ++ []
theorem dksX12_init_0 : cX12_init.data.toList.drop 0 = dktX12_init_0 := by decide +kernel
theorem dX12_init_0 : decode cX12_init 0 = .ok (.aload_n 0, 1) := dk_42 (dk_at dksX12_init_0 0 rfl rfl)
theorem dX12_init_1 : decode cX12_init 1 = .ok (.invokespecial 1, 3) := dk_183 0 1 (dk_at dksX12_init_0 1 rfl rfl)
theorem dX12_init_4 : decode cX12_init 4 = .ok (.aload_n 0, 1) := dk_42 (dk_at dksX12_init_0 4 rfl rfl)
theorem dX12_init_5 : decode cX12_init 5 = .ok (.aload_n 1, 1) := dk_43 (dk_at dksX12_init_0 5 rfl rfl)
theorem dX12_init_6 : decode cX12_init 6 = .ok (.putfield 7, 3) := dk_181 0 7 (dk_at dksX12_init_0 6 rfl rfl)
theorem dX12_init_9 : decode cX12_init 9 = .ok (.aload_n 0, 1) := dk_42 (dk_at dksX12_init_0 9 rfl rfl)
theorem dX12_init_10 : decode cX12_init 10 = .ok (.iload_n 2, 1) := dk_28 (dk_at dksX12_init_0 10 rfl rfl)
theorem dX12_init_11 : decode cX12_init 11 = .ok (.putfield 13, 3) := dk_181 0 13 (dk_at dksX12_init_0 11 rfl rfl)
theorem dX12_init_14 : decode cX12_init 14 = .ok (.return_, 1) := dk_177 (dk_at dksX12_init_0 14 rfl rfl)
theorem q104 : (Jvm.Cond.initialized "TrunkYards$Train") ∈ lw_all := lw_g (lw_at lw_m1 56 rfl) rfl
theorem q267 : (Jvm.Cond.selects "TrunkYards$Train" ({ cls := "java/lang/Object", name := "getClass", desc := "()Ljava/lang/Class;" } : Jvm.MethodName) ({ cls := "java/lang/Object", name := "getClass", desc := "()Ljava/lang/Class;" } : Jvm.MethodName)) ∈ lw_all := lw_g (lw_at lw_m1 219 rfl) rfl
theorem q373 : (Jvm.Cond.selects "TrunkYards$Train" ({ cls := "java/lang/Object", name := "hashCode", desc := "()I" } : Jvm.MethodName) ({ cls := "java/lang/Object", name := "hashCode", desc := "()I" } : Jvm.MethodName)) ∈ lw_all := lw_g (lw_at lw_m2 85 rfl) rfl
theorem q1097 : (Jvm.Cond.selects "TrunkYards$Train" ({ cls := "java/lang/Object", name := "equals", desc := "(Ljava/lang/Object;)Z" } : Jvm.MethodName) ({ cls := "java/lang/Object", name := "equals", desc := "(Ljava/lang/Object;)Z" } : Jvm.MethodName)) ∈ lw_all := lw_g (lw_at lw_m5 89 rfl) rfl
theorem q2241 : (Jvm.Cond.instantiable "TrunkYards$Train" (3 : Nat)) ∈ lw_all := lw_g (lw_at lw_m10 33 rfl) rfl
theorem q2286 : (Jvm.Cond.instanceMethod ({ cls := "TrunkYards$Train", name := "<init>", desc := "(Ljava/util/LinkedList;I)V" } : Jvm.MethodName)) ∈ lw_all := lw_g (lw_at lw_m10 78 rfl) rfl
theorem q2287 : (Jvm.Cond.code ({ cls := "TrunkYards$Train", name := "<init>", desc := "(Ljava/util/LinkedList;I)V" } : Jvm.MethodName) prog_15_method_1_code (3 : Nat) (Option.none : Option Jvm.ClassFile.FieldType)) ∈ lw_all := lw_g (lw_at lw_m10 79 rfl) rfl
theorem q2288 : (Jvm.Cond.methodLink "TrunkYards$Train" (1 : Nat) ({ cls := "java/lang/Object", name := "<init>", desc := "()V" } : Jvm.MethodName)) ∈ lw_all := lw_g (lw_at lw_m10 80 rfl) rfl
theorem q2289 : (Jvm.Cond.fieldLink "TrunkYards$Train" (7 : Nat) "TrunkYards$Train" "wagons" "Ljava/util/LinkedList;") ∈ lw_all := lw_g (lw_at lw_m10 81 rfl) rfl
theorem q2291 : (Jvm.Cond.fieldLink "TrunkYards$Train" (13 : Nat) "TrunkYards$Train" "to" "I") ∈ lw_all := lw_g (lw_at lw_m10 83 rfl) rfl
theorem q2294 : (Jvm.Cond.laysFinal "TrunkYards$Train" "TrunkYards$Train" "wagons" "Ljava/util/LinkedList;") ∈ lw_all := lw_g (lw_at lw_m10 86 rfl) rfl
theorem q2295 : (Jvm.Cond.soleField "TrunkYards$Train" "wagons") ∈ lw_all := lw_g (lw_at lw_m10 87 rfl) rfl
theorem q2296 : (Jvm.Cond.laysFinal "TrunkYards$Train" "TrunkYards$Train" "to" "I") ∈ lw_all := lw_g (lw_at lw_m10 88 rfl) rfl
theorem q2297 : (Jvm.Cond.soleField "TrunkYards$Train" "to") ∈ lw_all := lw_g (lw_at lw_m10 89 rfl) rfl
theorem q2298 : (Jvm.Cond.lays "TrunkYards$Train" "TrunkYards$Train" "hasArrived" "Z") ∈ lw_all := lw_g (lw_at lw_m10 90 rfl) rfl
theorem q2299 : (Jvm.Cond.soleField "TrunkYards$Train" "hasArrived") ∈ lw_all := lw_g (lw_at lw_m10 91 rfl) rfl
theorem q2300 : (Jvm.Cond.superclass "TrunkYards$Train" "java/lang/Object") ∈ lw_all := lw_g (lw_at lw_m10 92 rfl) rfl
theorem q2727 : (Jvm.Cond.castable "TrunkYards$Train" "java/lang/Object") ∈ lw_tbl := lw_at lw_m12 39 rfl
theorem in_X12 : ∀ w ∈ wsX120, w ∈ lw_all := lw_in wsX120 [2294, 2296, 2298] (by decide +kernel) (by decide +kernel)

/-! TrunkYards$Departed -/
set_option maxRecDepth 100000
def RX13 : String := "TrunkYards$Departed"
def TX13 : u_T := fun k => match k with
  | _ => ("TrunkYards$Departed", "track", "I", true)
def tyX13 : Nat → FieldType := fun k => match k with
  | _ => .int
abbrev wsX130 : List Cond := u_ws RX13 TX13 1
theorem nmX13 : ∀ a, a < 1 → ∀ b, b < 1 → a ≠ b → (TX13 a).2.1 ≠ (TX13 b).2.1 := by decide +kernel
theorem tyX13_ok : ∀ k, k < 1 → parseFieldDescriptor (TX13 k).2.2.1 = some (tyX13 k) := by decide +kernel
abbrev cX13_init : ByteArray := prog_5_method_1_code
def yX13_init : MethodName := ⟨RX13, "<init>", "(I)V"⟩
def dkwX13_init_0 : List UInt8 := [42, 183, 0, 1, 42, 27, 181, 0, 7, 177]
abbrev dktX13_init_0 : List UInt8 := dkwX13_init_0 ++ []
theorem dksX13_init_0 : cX13_init.data.toList.drop 0 = dktX13_init_0 := by decide +kernel
theorem dX13_init_0 : decode cX13_init 0 = .ok (.aload_n 0, 1) := dk_42 (dk_at dksX13_init_0 0 rfl rfl)
theorem dX13_init_1 : decode cX13_init 1 = .ok (.invokespecial 1, 3) := dk_183 0 1 (dk_at dksX13_init_0 1 rfl rfl)
theorem dX13_init_4 : decode cX13_init 4 = .ok (.aload_n 0, 1) := dk_42 (dk_at dksX13_init_0 4 rfl rfl)
theorem dX13_init_5 : decode cX13_init 5 = .ok (.iload_n 1, 1) := dk_27 (dk_at dksX13_init_0 5 rfl rfl)
theorem dX13_init_6 : decode cX13_init 6 = .ok (.putfield 7, 3) := dk_181 0 7 (dk_at dksX13_init_0 6 rfl rfl)
theorem dX13_init_9 : decode cX13_init 9 = .ok (.return_, 1) := dk_177 (dk_at dksX13_init_0 9 rfl rfl)
theorem q105 : (Jvm.Cond.initialized "TrunkYards$Departed") ∈ lw_all := lw_g (lw_at lw_m1 57 rfl) rfl
theorem q258 : (Jvm.Cond.selects "TrunkYards$Departed" ({ cls := "java/lang/Object", name := "getClass", desc := "()Ljava/lang/Class;" } : Jvm.MethodName) ({ cls := "java/lang/Object", name := "getClass", desc := "()Ljava/lang/Class;" } : Jvm.MethodName)) ∈ lw_all := lw_g (lw_at lw_m1 210 rfl) rfl
theorem q357 : (Jvm.Cond.selects "TrunkYards$Departed" ({ cls := "java/lang/Object", name := "hashCode", desc := "()I" } : Jvm.MethodName) ({ cls := "java/lang/Object", name := "hashCode", desc := "()I" } : Jvm.MethodName)) ∈ lw_all := lw_g (lw_at lw_m2 69 rfl) rfl
theorem q1083 : (Jvm.Cond.selects "TrunkYards$Departed" ({ cls := "java/lang/Object", name := "equals", desc := "(Ljava/lang/Object;)Z" } : Jvm.MethodName) ({ cls := "java/lang/Object", name := "equals", desc := "(Ljava/lang/Object;)Z" } : Jvm.MethodName)) ∈ lw_all := lw_g (lw_at lw_m5 75 rfl) rfl
theorem q2306 : (Jvm.Cond.instantiable "TrunkYards$Departed" (1 : Nat)) ∈ lw_all := lw_g (lw_at lw_m10 98 rfl) rfl
theorem q2308 : (Jvm.Cond.instanceMethod ({ cls := "TrunkYards$Departed", name := "<init>", desc := "(I)V" } : Jvm.MethodName)) ∈ lw_all := lw_g (lw_at lw_m10 100 rfl) rfl
theorem q2309 : (Jvm.Cond.code ({ cls := "TrunkYards$Departed", name := "<init>", desc := "(I)V" } : Jvm.MethodName) prog_5_method_1_code (2 : Nat) (Option.none : Option Jvm.ClassFile.FieldType)) ∈ lw_all := lw_g (lw_at lw_m10 101 rfl) rfl
theorem q2310 : (Jvm.Cond.methodLink "TrunkYards$Departed" (1 : Nat) ({ cls := "java/lang/Object", name := "<init>", desc := "()V" } : Jvm.MethodName)) ∈ lw_all := lw_g (lw_at lw_m10 102 rfl) rfl
theorem q2311 : (Jvm.Cond.fieldLink "TrunkYards$Departed" (7 : Nat) "TrunkYards$Departed" "track" "I") ∈ lw_all := lw_g (lw_at lw_m10 103 rfl) rfl
theorem q2313 : (Jvm.Cond.laysFinal "TrunkYards$Departed" "TrunkYards$Departed" "track" "I") ∈ lw_all := lw_g (lw_at lw_m10 105 rfl) rfl
theorem q2314 : (Jvm.Cond.soleField "TrunkYards$Departed" "track") ∈ lw_all := lw_g (lw_at lw_m10 106 rfl) rfl
theorem q2315 : (Jvm.Cond.superclass "TrunkYards$Departed" "java/lang/Object") ∈ lw_all := lw_g (lw_at lw_m10 107 rfl) rfl
theorem q2689 : (Jvm.Cond.castable "TrunkYards$Departed" "TrunkYards$Event") ∈ lw_tbl := lw_at lw_m12 1 rfl
theorem q2728 : (Jvm.Cond.castable "TrunkYards$Departed" "java/lang/Object") ∈ lw_tbl := lw_at lw_m12 40 rfl
theorem in_X13 : ∀ w ∈ wsX130, w ∈ lw_all := lw_in wsX130 [2313] (by decide +kernel) (by decide +kernel)

/-! TrunkYards$Arrived -/
set_option maxRecDepth 100000
def RX14 : String := "TrunkYards$Arrived"
def TX14 : u_T := fun k => match k with
  | 0 => ("TrunkYards$Arrived", "train", "I", true)
  | _ => ("TrunkYards$Arrived", "track", "I", true)
def tyX14 : Nat → FieldType := fun k => match k with
  | 0 => .int
  | _ => .int
abbrev wsX140 : List Cond := u_ws RX14 TX14 2
theorem nmX14 : ∀ a, a < 2 → ∀ b, b < 2 → a ≠ b → (TX14 a).2.1 ≠ (TX14 b).2.1 := by decide +kernel
theorem tyX14_ok : ∀ k, k < 2 → parseFieldDescriptor (TX14 k).2.2.1 = some (tyX14 k) := by decide +kernel
abbrev cX14_init : ByteArray := prog_2_method_1_code
def yX14_init : MethodName := ⟨RX14, "<init>", "(II)V"⟩
def dkwX14_init_0 : List UInt8 := [42, 183, 0, 1, 42, 27, 181, 0, 7, 42, 28, 181, 0, 13, 177]
abbrev dktX14_init_0 : List UInt8 := dkwX14_init_0 ++ []
theorem dksX14_init_0 : cX14_init.data.toList.drop 0 = dktX14_init_0 := by decide +kernel
theorem dX14_init_0 : decode cX14_init 0 = .ok (.aload_n 0, 1) := dk_42 (dk_at dksX14_init_0 0 rfl rfl)
theorem dX14_init_1 : decode cX14_init 1 = .ok (.invokespecial 1, 3) := dk_183 0 1 (dk_at dksX14_init_0 1 rfl rfl)
theorem dX14_init_4 : decode cX14_init 4 = .ok (.aload_n 0, 1) := dk_42 (dk_at dksX14_init_0 4 rfl rfl)
theorem dX14_init_5 : decode cX14_init 5 = .ok (.iload_n 1, 1) := dk_27 (dk_at dksX14_init_0 5 rfl rfl)
theorem dX14_init_6 : decode cX14_init 6 = .ok (.putfield 7, 3) := dk_181 0 7 (dk_at dksX14_init_0 6 rfl rfl)
theorem dX14_init_9 : decode cX14_init 9 = .ok (.aload_n 0, 1) := dk_42 (dk_at dksX14_init_0 9 rfl rfl)
theorem dX14_init_10 : decode cX14_init 10 = .ok (.iload_n 2, 1) := dk_28 (dk_at dksX14_init_0 10 rfl rfl)
theorem dX14_init_11 : decode cX14_init 11 = .ok (.putfield 13, 3) := dk_181 0 13 (dk_at dksX14_init_0 11 rfl rfl)
theorem dX14_init_14 : decode cX14_init 14 = .ok (.return_, 1) := dk_177 (dk_at dksX14_init_0 14 rfl rfl)
theorem q106 : (Jvm.Cond.initialized "TrunkYards$Arrived") ∈ lw_all := lw_g (lw_at lw_m1 58 rfl) rfl
theorem q255 : (Jvm.Cond.selects "TrunkYards$Arrived" ({ cls := "java/lang/Object", name := "getClass", desc := "()Ljava/lang/Class;" } : Jvm.MethodName) ({ cls := "java/lang/Object", name := "getClass", desc := "()Ljava/lang/Class;" } : Jvm.MethodName)) ∈ lw_all := lw_g (lw_at lw_m1 207 rfl) rfl
theorem q354 : (Jvm.Cond.selects "TrunkYards$Arrived" ({ cls := "java/lang/Object", name := "hashCode", desc := "()I" } : Jvm.MethodName) ({ cls := "java/lang/Object", name := "hashCode", desc := "()I" } : Jvm.MethodName)) ∈ lw_all := lw_g (lw_at lw_m2 66 rfl) rfl
theorem q1080 : (Jvm.Cond.selects "TrunkYards$Arrived" ({ cls := "java/lang/Object", name := "equals", desc := "(Ljava/lang/Object;)Z" } : Jvm.MethodName) ({ cls := "java/lang/Object", name := "equals", desc := "(Ljava/lang/Object;)Z" } : Jvm.MethodName)) ∈ lw_all := lw_g (lw_at lw_m5 72 rfl) rfl
theorem q2326 : (Jvm.Cond.instantiable "TrunkYards$Arrived" (2 : Nat)) ∈ lw_all := lw_g (lw_at lw_m10 118 rfl) rfl
theorem q2328 : (Jvm.Cond.instanceMethod ({ cls := "TrunkYards$Arrived", name := "<init>", desc := "(II)V" } : Jvm.MethodName)) ∈ lw_all := lw_g (lw_at lw_m10 120 rfl) rfl
theorem q2329 : (Jvm.Cond.code ({ cls := "TrunkYards$Arrived", name := "<init>", desc := "(II)V" } : Jvm.MethodName) prog_2_method_1_code (3 : Nat) (Option.none : Option Jvm.ClassFile.FieldType)) ∈ lw_all := lw_g (lw_at lw_m10 121 rfl) rfl
theorem q2330 : (Jvm.Cond.methodLink "TrunkYards$Arrived" (1 : Nat) ({ cls := "java/lang/Object", name := "<init>", desc := "()V" } : Jvm.MethodName)) ∈ lw_all := lw_g (lw_at lw_m10 122 rfl) rfl
theorem q2331 : (Jvm.Cond.fieldLink "TrunkYards$Arrived" (7 : Nat) "TrunkYards$Arrived" "train" "I") ∈ lw_all := lw_g (lw_at lw_m10 123 rfl) rfl
theorem q2333 : (Jvm.Cond.fieldLink "TrunkYards$Arrived" (13 : Nat) "TrunkYards$Arrived" "track" "I") ∈ lw_all := lw_g (lw_at lw_m10 125 rfl) rfl
theorem q2335 : (Jvm.Cond.laysFinal "TrunkYards$Arrived" "TrunkYards$Arrived" "train" "I") ∈ lw_all := lw_g (lw_at lw_m10 127 rfl) rfl
theorem q2336 : (Jvm.Cond.soleField "TrunkYards$Arrived" "train") ∈ lw_all := lw_g (lw_at lw_m10 128 rfl) rfl
theorem q2337 : (Jvm.Cond.laysFinal "TrunkYards$Arrived" "TrunkYards$Arrived" "track" "I") ∈ lw_all := lw_g (lw_at lw_m10 129 rfl) rfl
theorem q2338 : (Jvm.Cond.soleField "TrunkYards$Arrived" "track") ∈ lw_all := lw_g (lw_at lw_m10 130 rfl) rfl
theorem q2339 : (Jvm.Cond.superclass "TrunkYards$Arrived" "java/lang/Object") ∈ lw_all := lw_g (lw_at lw_m10 131 rfl) rfl
theorem q2688 : (Jvm.Cond.castable "TrunkYards$Arrived" "TrunkYards$Event") ∈ lw_tbl := lw_at lw_m12 0 rfl
theorem q2730 : (Jvm.Cond.castable "TrunkYards$Arrived" "java/lang/Object") ∈ lw_tbl := lw_at lw_m12 42 rfl
theorem in_X14 : ∀ w ∈ wsX140, w ∈ lw_all := lw_in wsX140 [2335, 2337] (by decide +kernel) (by decide +kernel)

/-! TrunkYards$State$1 -/
set_option maxRecDepth 100000
def RX15 : String := "TrunkYards$State$1"
abbrev cX15_canDepart : ByteArray := prog_12_method_2_code
def yX15_canDepart : MethodName := ⟨RX15, "canDepart", "()Z"⟩
theorem dX15_canDepart_0 : decode cX15_canDepart 0 = .ok (.iconst 1, 1) := by decide +kernel
theorem dX15_canDepart_1 : decode cX15_canDepart 1 = .ok (.ireturn, 1) := by decide +kernel
theorem q264 : (Jvm.Cond.selects "TrunkYards$State$1" ({ cls := "java/lang/Object", name := "getClass", desc := "()Ljava/lang/Class;" } : Jvm.MethodName) ({ cls := "java/lang/Object", name := "getClass", desc := "()Ljava/lang/Class;" } : Jvm.MethodName)) ∈ lw_all := lw_g (lw_at lw_m1 216 rfl) rfl
theorem q370 : (Jvm.Cond.selects "TrunkYards$State$1" ({ cls := "java/lang/Object", name := "hashCode", desc := "()I" } : Jvm.MethodName) ({ cls := "java/lang/Enum", name := "hashCode", desc := "()I" } : Jvm.MethodName)) ∈ lw_all := lw_g (lw_at lw_m2 82 rfl) rfl
theorem q849 : (Jvm.Cond.selects "TrunkYards$State$1" ({ cls := "java/lang/Enum", name := "compareTo", desc := "(Ljava/lang/Enum;)I" } : Jvm.MethodName) ({ cls := "java/lang/Enum", name := "compareTo", desc := "(Ljava/lang/Enum;)I" } : Jvm.MethodName)) ∈ lw_all := lw_g (lw_at lw_m4 81 rfl) rfl
theorem q858 : (Jvm.Cond.selects "TrunkYards$State$1" ({ cls := "java/lang/Enum", name := "getDeclaringClass", desc := "()Ljava/lang/Class;" } : Jvm.MethodName) ({ cls := "java/lang/Enum", name := "getDeclaringClass", desc := "()Ljava/lang/Class;" } : Jvm.MethodName)) ∈ lw_all := lw_g (lw_at lw_m4 90 rfl) rfl
theorem q862 : (Jvm.Cond.castable "TrunkYards$State$1" "java/lang/Comparable") ∈ lw_tbl := lw_at lw_m4 94 rfl
theorem q863 : (Jvm.Cond.selects "TrunkYards$State$1" ({ cls := "java/lang/Comparable", name := "compareTo", desc := "(Ljava/lang/Object;)I" } : Jvm.MethodName) ({ cls := "java/lang/Enum", name := "compareTo", desc := "(Ljava/lang/Object;)I" } : Jvm.MethodName)) ∈ lw_all := lw_g (lw_at lw_m4 95 rfl) rfl
theorem q864 : (Jvm.Cond.unhidden "TrunkYards$State$1" "compareTo" "(Ljava/lang/Object;)I") ∈ lw_tbl := lw_at lw_m4 96 rfl
theorem q1094 : (Jvm.Cond.selects "TrunkYards$State$1" ({ cls := "java/lang/Object", name := "equals", desc := "(Ljava/lang/Object;)Z" } : Jvm.MethodName) ({ cls := "java/lang/Enum", name := "equals", desc := "(Ljava/lang/Object;)Z" } : Jvm.MethodName)) ∈ lw_all := lw_g (lw_at lw_m5 86 rfl) rfl
theorem q1998 : (Jvm.Cond.selects "TrunkYards$State$1" ({ cls := "TrunkYards$State", name := "promises", desc := "()Z" } : Jvm.MethodName) ({ cls := "TrunkYards$State", name := "promises", desc := "()Z" } : Jvm.MethodName)) ∈ lw_all := lw_g (lw_at lw_m9 30 rfl) rfl
theorem q2108 : (Jvm.Cond.selects "TrunkYards$State$1" ({ cls := "TrunkYards$State", name := "ordinal", desc := "()I" } : Jvm.MethodName) ({ cls := "java/lang/Enum", name := "ordinal", desc := "()I" } : Jvm.MethodName)) ∈ lw_all := lw_g (lw_at lw_m9 140 rfl) rfl
theorem q2229 : (Jvm.Cond.selects "TrunkYards$State$1" ({ cls := "TrunkYards$State", name := "canDepart", desc := "()Z" } : Jvm.MethodName) ({ cls := "TrunkYards$State$1", name := "canDepart", desc := "()Z" } : Jvm.MethodName)) ∈ lw_all := lw_g (lw_at lw_m10 21 rfl) rfl
theorem q2230 : (Jvm.Cond.instanceMethod ({ cls := "TrunkYards$State$1", name := "canDepart", desc := "()Z" } : Jvm.MethodName)) ∈ lw_all := lw_g (lw_at lw_m10 22 rfl) rfl
theorem q2231 : (Jvm.Cond.code ({ cls := "TrunkYards$State$1", name := "canDepart", desc := "()Z" } : Jvm.MethodName) prog_12_method_2_code (1 : Nat) (Option.some Jvm.ClassFile.FieldType.boolean)) ∈ lw_all := lw_g (lw_at lw_m10 23 rfl) rfl
theorem q2684 : (Jvm.Cond.castable "TrunkYards$State$1" "java/lang/Enum") ∈ lw_tbl := lw_at lw_m11 236 rfl
theorem q2721 : (Jvm.Cond.castable "TrunkYards$State$1" "java/lang/Object") ∈ lw_tbl := lw_at lw_m12 33 rfl

/-! TrunkYards$State$2 -/
set_option maxRecDepth 100000
def RX16 : String := "TrunkYards$State$2"
abbrev cX16_promises : ByteArray := prog_13_method_2_code
def yX16_promises : MethodName := ⟨RX16, "promises", "()Z"⟩
theorem dX16_promises_0 : decode cX16_promises 0 = .ok (.iconst 0, 1) := by decide +kernel
theorem dX16_promises_1 : decode cX16_promises 1 = .ok (.ireturn, 1) := by decide +kernel
theorem q265 : (Jvm.Cond.selects "TrunkYards$State$2" ({ cls := "java/lang/Object", name := "getClass", desc := "()Ljava/lang/Class;" } : Jvm.MethodName) ({ cls := "java/lang/Object", name := "getClass", desc := "()Ljava/lang/Class;" } : Jvm.MethodName)) ∈ lw_all := lw_g (lw_at lw_m1 217 rfl) rfl
theorem q371 : (Jvm.Cond.selects "TrunkYards$State$2" ({ cls := "java/lang/Object", name := "hashCode", desc := "()I" } : Jvm.MethodName) ({ cls := "java/lang/Enum", name := "hashCode", desc := "()I" } : Jvm.MethodName)) ∈ lw_all := lw_g (lw_at lw_m2 83 rfl) rfl
theorem q850 : (Jvm.Cond.selects "TrunkYards$State$2" ({ cls := "java/lang/Enum", name := "compareTo", desc := "(Ljava/lang/Enum;)I" } : Jvm.MethodName) ({ cls := "java/lang/Enum", name := "compareTo", desc := "(Ljava/lang/Enum;)I" } : Jvm.MethodName)) ∈ lw_all := lw_g (lw_at lw_m4 82 rfl) rfl
theorem q859 : (Jvm.Cond.selects "TrunkYards$State$2" ({ cls := "java/lang/Enum", name := "getDeclaringClass", desc := "()Ljava/lang/Class;" } : Jvm.MethodName) ({ cls := "java/lang/Enum", name := "getDeclaringClass", desc := "()Ljava/lang/Class;" } : Jvm.MethodName)) ∈ lw_all := lw_g (lw_at lw_m4 91 rfl) rfl
theorem q865 : (Jvm.Cond.castable "TrunkYards$State$2" "java/lang/Comparable") ∈ lw_tbl := lw_at lw_m4 97 rfl
theorem q866 : (Jvm.Cond.selects "TrunkYards$State$2" ({ cls := "java/lang/Comparable", name := "compareTo", desc := "(Ljava/lang/Object;)I" } : Jvm.MethodName) ({ cls := "java/lang/Enum", name := "compareTo", desc := "(Ljava/lang/Object;)I" } : Jvm.MethodName)) ∈ lw_all := lw_g (lw_at lw_m4 98 rfl) rfl
theorem q867 : (Jvm.Cond.unhidden "TrunkYards$State$2" "compareTo" "(Ljava/lang/Object;)I") ∈ lw_tbl := lw_at lw_m4 99 rfl
theorem q1095 : (Jvm.Cond.selects "TrunkYards$State$2" ({ cls := "java/lang/Object", name := "equals", desc := "(Ljava/lang/Object;)Z" } : Jvm.MethodName) ({ cls := "java/lang/Enum", name := "equals", desc := "(Ljava/lang/Object;)Z" } : Jvm.MethodName)) ∈ lw_all := lw_g (lw_at lw_m5 87 rfl) rfl
theorem q1999 : (Jvm.Cond.selects "TrunkYards$State$2" ({ cls := "TrunkYards$State", name := "promises", desc := "()Z" } : Jvm.MethodName) ({ cls := "TrunkYards$State$2", name := "promises", desc := "()Z" } : Jvm.MethodName)) ∈ lw_all := lw_g (lw_at lw_m9 31 rfl) rfl
theorem q2000 : (Jvm.Cond.instanceMethod ({ cls := "TrunkYards$State$2", name := "promises", desc := "()Z" } : Jvm.MethodName)) ∈ lw_all := lw_g (lw_at lw_m9 32 rfl) rfl
theorem q2001 : (Jvm.Cond.code ({ cls := "TrunkYards$State$2", name := "promises", desc := "()Z" } : Jvm.MethodName) prog_13_method_2_code (1 : Nat) (Option.some Jvm.ClassFile.FieldType.boolean)) ∈ lw_all := lw_g (lw_at lw_m9 33 rfl) rfl
theorem q2109 : (Jvm.Cond.selects "TrunkYards$State$2" ({ cls := "TrunkYards$State", name := "ordinal", desc := "()I" } : Jvm.MethodName) ({ cls := "java/lang/Enum", name := "ordinal", desc := "()I" } : Jvm.MethodName)) ∈ lw_all := lw_g (lw_at lw_m9 141 rfl) rfl
theorem q2232 : (Jvm.Cond.selects "TrunkYards$State$2" ({ cls := "TrunkYards$State", name := "canDepart", desc := "()Z" } : Jvm.MethodName) ({ cls := "TrunkYards$State", name := "canDepart", desc := "()Z" } : Jvm.MethodName)) ∈ lw_all := lw_g (lw_at lw_m10 24 rfl) rfl
theorem q2685 : (Jvm.Cond.castable "TrunkYards$State$2" "java/lang/Enum") ∈ lw_tbl := lw_at lw_m11 237 rfl
theorem q2729 : (Jvm.Cond.castable "TrunkYards$State$2" "java/lang/Object") ∈ lw_tbl := lw_at lw_m12 41 rfl

/-! TrunkYards$State$3 -/
set_option maxRecDepth 100000
def RX17 : String := "TrunkYards$State$3"
abbrev cX17_promises : ByteArray := prog_14_method_2_code
def yX17_promises : MethodName := ⟨RX17, "promises", "()Z"⟩
theorem dX17_promises_0 : decode cX17_promises 0 = .ok (.iconst 0, 1) := by decide +kernel
theorem dX17_promises_1 : decode cX17_promises 1 = .ok (.ireturn, 1) := by decide +kernel
theorem q266 : (Jvm.Cond.selects "TrunkYards$State$3" ({ cls := "java/lang/Object", name := "getClass", desc := "()Ljava/lang/Class;" } : Jvm.MethodName) ({ cls := "java/lang/Object", name := "getClass", desc := "()Ljava/lang/Class;" } : Jvm.MethodName)) ∈ lw_all := lw_g (lw_at lw_m1 218 rfl) rfl
theorem q372 : (Jvm.Cond.selects "TrunkYards$State$3" ({ cls := "java/lang/Object", name := "hashCode", desc := "()I" } : Jvm.MethodName) ({ cls := "java/lang/Enum", name := "hashCode", desc := "()I" } : Jvm.MethodName)) ∈ lw_all := lw_g (lw_at lw_m2 84 rfl) rfl
theorem q851 : (Jvm.Cond.selects "TrunkYards$State$3" ({ cls := "java/lang/Enum", name := "compareTo", desc := "(Ljava/lang/Enum;)I" } : Jvm.MethodName) ({ cls := "java/lang/Enum", name := "compareTo", desc := "(Ljava/lang/Enum;)I" } : Jvm.MethodName)) ∈ lw_all := lw_g (lw_at lw_m4 83 rfl) rfl
theorem q860 : (Jvm.Cond.selects "TrunkYards$State$3" ({ cls := "java/lang/Enum", name := "getDeclaringClass", desc := "()Ljava/lang/Class;" } : Jvm.MethodName) ({ cls := "java/lang/Enum", name := "getDeclaringClass", desc := "()Ljava/lang/Class;" } : Jvm.MethodName)) ∈ lw_all := lw_g (lw_at lw_m4 92 rfl) rfl
theorem q868 : (Jvm.Cond.castable "TrunkYards$State$3" "java/lang/Comparable") ∈ lw_tbl := lw_at lw_m4 100 rfl
theorem q869 : (Jvm.Cond.selects "TrunkYards$State$3" ({ cls := "java/lang/Comparable", name := "compareTo", desc := "(Ljava/lang/Object;)I" } : Jvm.MethodName) ({ cls := "java/lang/Enum", name := "compareTo", desc := "(Ljava/lang/Object;)I" } : Jvm.MethodName)) ∈ lw_all := lw_g (lw_at lw_m4 101 rfl) rfl
theorem q870 : (Jvm.Cond.unhidden "TrunkYards$State$3" "compareTo" "(Ljava/lang/Object;)I") ∈ lw_tbl := lw_at lw_m4 102 rfl
theorem q1096 : (Jvm.Cond.selects "TrunkYards$State$3" ({ cls := "java/lang/Object", name := "equals", desc := "(Ljava/lang/Object;)Z" } : Jvm.MethodName) ({ cls := "java/lang/Enum", name := "equals", desc := "(Ljava/lang/Object;)Z" } : Jvm.MethodName)) ∈ lw_all := lw_g (lw_at lw_m5 88 rfl) rfl
theorem q2002 : (Jvm.Cond.selects "TrunkYards$State$3" ({ cls := "TrunkYards$State", name := "promises", desc := "()Z" } : Jvm.MethodName) ({ cls := "TrunkYards$State$3", name := "promises", desc := "()Z" } : Jvm.MethodName)) ∈ lw_all := lw_g (lw_at lw_m9 34 rfl) rfl
theorem q2003 : (Jvm.Cond.instanceMethod ({ cls := "TrunkYards$State$3", name := "promises", desc := "()Z" } : Jvm.MethodName)) ∈ lw_all := lw_g (lw_at lw_m9 35 rfl) rfl
theorem q2004 : (Jvm.Cond.code ({ cls := "TrunkYards$State$3", name := "promises", desc := "()Z" } : Jvm.MethodName) prog_14_method_2_code (1 : Nat) (Option.some Jvm.ClassFile.FieldType.boolean)) ∈ lw_all := lw_g (lw_at lw_m9 36 rfl) rfl
theorem q2110 : (Jvm.Cond.selects "TrunkYards$State$3" ({ cls := "TrunkYards$State", name := "ordinal", desc := "()I" } : Jvm.MethodName) ({ cls := "java/lang/Enum", name := "ordinal", desc := "()I" } : Jvm.MethodName)) ∈ lw_all := lw_g (lw_at lw_m9 142 rfl) rfl
theorem q2233 : (Jvm.Cond.selects "TrunkYards$State$3" ({ cls := "TrunkYards$State", name := "canDepart", desc := "()Z" } : Jvm.MethodName) ({ cls := "TrunkYards$State", name := "canDepart", desc := "()Z" } : Jvm.MethodName)) ∈ lw_all := lw_g (lw_at lw_m10 25 rfl) rfl
theorem q2686 : (Jvm.Cond.castable "TrunkYards$State$3" "java/lang/Enum") ∈ lw_tbl := lw_at lw_m11 238 rfl
theorem q2722 : (Jvm.Cond.castable "TrunkYards$State$3" "java/lang/Object") ∈ lw_tbl := lw_at lw_m12 34 rfl

def tbX1_init (pc : Nat) : Option (Instr × Nat) := (cond (Nat.ble pc 106) (cond (Nat.ble pc 51) (cond (Nat.ble pc 26) (cond (Nat.ble pc 9) (cond (Nat.ble pc 4) (cond (Nat.ble pc 0) (cond (Nat.beq pc 0) (some (.aload_n 0, 1)) none) (cond (Nat.ble pc 1) (cond (Nat.beq pc 1) (some (.invokespecial 1, 3)) none) (cond (Nat.beq pc 4) (some (.aload_n 0, 1)) none))) (cond (Nat.ble pc 5) (cond (Nat.beq pc 5) (some (.new 7, 3)) none) (cond (Nat.ble pc 8) (cond (Nat.beq pc 8) (some (.dup, 1)) none) (cond (Nat.beq pc 9) (some (.invokespecial 9, 3)) none)))) (cond (Nat.ble pc 16) (cond (Nat.ble pc 12) (cond (Nat.beq pc 12) (some (.putfield 10, 3)) none) (cond (Nat.ble pc 15) (cond (Nat.beq pc 15) (some (.aload_n 0, 1)) none) (cond (Nat.beq pc 16) (some (.new 7, 3)) none))) (cond (Nat.ble pc 20) (cond (Nat.ble pc 19) (cond (Nat.beq pc 19) (some (.dup, 1)) none) (cond (Nat.beq pc 20) (some (.invokespecial 9, 3)) none)) (cond (Nat.ble pc 23) (cond (Nat.beq pc 23) (some (.putfield 16, 3)) none) (cond (Nat.beq pc 26) (some (.aload_n 0, 1)) none))))) (cond (Nat.ble pc 37) (cond (Nat.ble pc 29) (cond (Nat.ble pc 27) (cond (Nat.beq pc 27) (some (.iconst 4, 1)) none) (cond (Nat.ble pc 28) (cond (Nat.beq pc 28) (some (.iconst 4, 1)) none) (cond (Nat.beq pc 29) (some (.multianewarray 19 2, 4)) none))) (cond (Nat.ble pc 33) (cond (Nat.beq pc 33) (some (.putfield 21, 3)) none) (cond (Nat.ble pc 36) (cond (Nat.beq pc 36) (some (.aload_n 0, 1)) none) (cond (Nat.beq pc 37) (some (.new 24, 3)) none)))) (cond (Nat.ble pc 44) (cond (Nat.ble pc 40) (cond (Nat.beq pc 40) (some (.dup, 1)) none) (cond (Nat.ble pc 41) (cond (Nat.beq pc 41) (some (.invokespecial 26, 3)) none) (cond (Nat.beq pc 44) (some (.putfield 27, 3)) none))) (cond (Nat.ble pc 48) (cond (Nat.ble pc 47) (cond (Nat.beq pc 47) (some (.aload_n 0, 1)) none) (cond (Nat.beq pc 48) (some (.iconst 3, 1)) none)) (cond (Nat.ble pc 49) (cond (Nat.beq pc 49) (some (.newarray .int, 2)) none) (cond (Nat.beq pc 51) (some (.putfield 31, 3)) none)))))) (cond (Nat.ble pc 80) (cond (Nat.ble pc 65) (cond (Nat.ble pc 58) (cond (Nat.ble pc 54) (cond (Nat.beq pc 54) (some (.aload_n 0, 1)) none) (cond (Nat.ble pc 55) (cond (Nat.beq pc 55) (some (.new 7, 3)) none) (cond (Nat.beq pc 58) (some (.dup, 1)) none))) (cond (Nat.ble pc 59) (cond (Nat.beq pc 59) (some (.invokespecial 9, 3)) none) (cond (Nat.ble pc 62) (cond (Nat.beq pc 62) (some (.putfield 35, 3)) none) (cond (Nat.beq pc 65) (some (.aload_n 0, 1)) none)))) (cond (Nat.ble pc 70) (cond (Nat.ble pc 66) (cond (Nat.beq pc 66) (some (.new 7, 3)) none) (cond (Nat.ble pc 69) (cond (Nat.beq pc 69) (some (.dup, 1)) none) (cond (Nat.beq pc 70) (some (.invokespecial 9, 3)) none))) (cond (Nat.ble pc 76) (cond (Nat.ble pc 73) (cond (Nat.beq pc 73) (some (.putfield 38, 3)) none) (cond (Nat.beq pc 76) (some (.aload_n 0, 1)) none)) (cond (Nat.ble pc 77) (cond (Nat.beq pc 77) (some (.new 7, 3)) none) (cond (Nat.beq pc 80) (some (.dup, 1)) none))))) (cond (Nat.ble pc 95) (cond (Nat.ble pc 87) (cond (Nat.ble pc 81) (cond (Nat.beq pc 81) (some (.invokespecial 9, 3)) none) (cond (Nat.ble pc 84) (cond (Nat.beq pc 84) (some (.putfield 41, 3)) none) (cond (Nat.beq pc 87) (some (.aload_n 0, 1)) none))) (cond (Nat.ble pc 91) (cond (Nat.ble pc 88) (cond (Nat.beq pc 88) (some (.new 7, 3)) none) (cond (Nat.beq pc 91) (some (.dup, 1)) none)) (cond (Nat.ble pc 92) (cond (Nat.beq pc 92) (some (.invokespecial 9, 3)) none) (cond (Nat.beq pc 95) (some (.putfield 44, 3)) none)))) (cond (Nat.ble pc 100) (cond (Nat.ble pc 98) (cond (Nat.beq pc 98) (some (.iconst 0, 1)) none) (cond (Nat.ble pc 99) (cond (Nat.beq pc 99) (some (.istore_n 1, 1)) none) (cond (Nat.beq pc 100) (some (.iload_n 1, 1)) none))) (cond (Nat.ble pc 102) (cond (Nat.ble pc 101) (cond (Nat.beq pc 101) (some (.iconst 3, 1)) none) (cond (Nat.beq pc 102) (some (.if_icmp .ge 103, 3)) none)) (cond (Nat.ble pc 105) (cond (Nat.beq pc 105) (some (.aload_n 0, 1)) none) (cond (Nat.beq pc 106) (some (.getfield 31, 3)) none))))))) (cond (Nat.ble pc 150) (cond (Nat.ble pc 127) (cond (Nat.ble pc 114) (cond (Nat.ble pc 111) (cond (Nat.ble pc 109) (cond (Nat.beq pc 109) (some (.iload_n 1, 1)) none) (cond (Nat.ble pc 110) (cond (Nat.beq pc 110) (some (.iconst 1, 1)) none) (cond (Nat.beq pc 111) (some (.iastore, 1)) none))) (cond (Nat.ble pc 112) (cond (Nat.beq pc 112) (some (.iconst 0, 1)) none) (cond (Nat.ble pc 113) (cond (Nat.beq pc 113) (some (.istore_n 2, 1)) none) (cond (Nat.beq pc 114) (some (.iload_n 2, 1)) none)))) (cond (Nat.ble pc 119) (cond (Nat.ble pc 115) (cond (Nat.beq pc 115) (some (.iconst 5, 1)) none) (cond (Nat.ble pc 116) (cond (Nat.beq pc 116) (some (.if_icmp .ge 24, 3)) none) (cond (Nat.beq pc 119) (some (.aload_n 0, 1)) none))) (cond (Nat.ble pc 123) (cond (Nat.ble pc 120) (cond (Nat.beq pc 120) (some (.getfield 10, 3)) none) (cond (Nat.beq pc 123) (some (.new 47, 3)) none)) (cond (Nat.ble pc 126) (cond (Nat.beq pc 126) (some (.dup, 1)) none) (cond (Nat.beq pc 127) (some (.invokespecial 49, 3)) none))))) (cond (Nat.ble pc 141) (cond (Nat.ble pc 134) (cond (Nat.ble pc 130) (cond (Nat.beq pc 130) (some (.invokevirtual 50, 3)) none) (cond (Nat.ble pc 133) (cond (Nat.beq pc 133) (some (.pop, 1)) none) (cond (Nat.beq pc 134) (some (.iinc 2 1, 3)) none))) (cond (Nat.ble pc 137) (cond (Nat.beq pc 137) (some (.goto (-23), 3)) none) (cond (Nat.ble pc 140) (cond (Nat.beq pc 140) (some (.iload_n 1, 1)) none) (cond (Nat.beq pc 141) (some (.iconst 1, 1)) none)))) (cond (Nat.ble pc 144) (cond (Nat.ble pc 142) (cond (Nat.beq pc 142) (some (.iadd, 1)) none) (cond (Nat.ble pc 143) (cond (Nat.beq pc 143) (some (.istore_n 2, 1)) none) (cond (Nat.beq pc 144) (some (.iload_n 2, 1)) none))) (cond (Nat.ble pc 146) (cond (Nat.ble pc 145) (cond (Nat.beq pc 145) (some (.iconst 3, 1)) none) (cond (Nat.beq pc 146) (some (.if_icmp .ge 53, 3)) none)) (cond (Nat.ble pc 149) (cond (Nat.beq pc 149) (some (.aload_n 0, 1)) none) (cond (Nat.beq pc 150) (some (.getfield 27, 3)) none)))))) (cond (Nat.ble pc 175) (cond (Nat.ble pc 162) (cond (Nat.ble pc 157) (cond (Nat.ble pc 153) (cond (Nat.beq pc 153) (some (.new 54, 3)) none) (cond (Nat.ble pc 156) (cond (Nat.beq pc 156) (some (.dup, 1)) none) (cond (Nat.beq pc 157) (some (.iload_n 1, 1)) none))) (cond (Nat.ble pc 158) (cond (Nat.beq pc 158) (some (.iload_n 2, 1)) none) (cond (Nat.ble pc 159) (cond (Nat.beq pc 159) (some (.invokespecial 56, 3)) none) (cond (Nat.beq pc 162) (some (.iconst 2, 1)) none)))) (cond (Nat.ble pc 167) (cond (Nat.ble pc 163) (cond (Nat.beq pc 163) (some (.anewarray 59, 3)) none) (cond (Nat.ble pc 166) (cond (Nat.beq pc 166) (some (.dup, 1)) none) (cond (Nat.beq pc 167) (some (.iconst 0, 1)) none))) (cond (Nat.ble pc 171) (cond (Nat.ble pc 168) (cond (Nat.beq pc 168) (some (.new 59, 3)) none) (cond (Nat.beq pc 171) (some (.dup, 1)) none)) (cond (Nat.ble pc 172) (cond (Nat.beq pc 172) (some (.invokespecial 61, 3)) none) (cond (Nat.beq pc 175) (some (.aastore, 1)) none))))) (cond (Nat.ble pc 186) (cond (Nat.ble pc 178) (cond (Nat.ble pc 176) (cond (Nat.beq pc 176) (some (.dup, 1)) none) (cond (Nat.ble pc 177) (cond (Nat.beq pc 177) (some (.iconst 1, 1)) none) (cond (Nat.beq pc 178) (some (.new 59, 3)) none))) (cond (Nat.ble pc 182) (cond (Nat.ble pc 181) (cond (Nat.beq pc 181) (some (.dup, 1)) none) (cond (Nat.beq pc 182) (some (.invokespecial 61, 3)) none)) (cond (Nat.ble pc 185) (cond (Nat.beq pc 185) (some (.aastore, 1)) none) (cond (Nat.beq pc 186) (some (.invokevirtual 62, 3)) none)))) (cond (Nat.ble pc 193) (cond (Nat.ble pc 189) (cond (Nat.beq pc 189) (some (.checkcast 66, 3)) none) (cond (Nat.ble pc 192) (cond (Nat.beq pc 192) (some (.astore_n 3, 1)) none) (cond (Nat.beq pc 193) (some (.iinc 2 1, 3)) none))) (cond (Nat.ble pc 199) (cond (Nat.ble pc 196) (cond (Nat.beq pc 196) (some (.goto (-52), 3)) none) (cond (Nat.beq pc 199) (some (.iinc 1 1, 3)) none)) (cond (Nat.ble pc 202) (cond (Nat.beq pc 202) (some (.goto (-102), 3)) none) (cond (Nat.beq pc 205) (some (.return_, 1)) none))))))))
theorem tkX1_init : tkAll cX1_init tbX1_init := fun pc => (tk_b (tk_b (tk_b (tk_b (tk_b (tk_b (tk_l dX1_init_0) (tk_b (tk_l dX1_init_1) (tk_l dX1_init_4))) (tk_b (tk_l dX1_init_5) (tk_b (tk_l dX1_init_8) (tk_l dX1_init_9)))) (tk_b (tk_b (tk_l dX1_init_12) (tk_b (tk_l dX1_init_15) (tk_l dX1_init_16))) (tk_b (tk_b (tk_l dX1_init_19) (tk_l dX1_init_20)) (tk_b (tk_l dX1_init_23) (tk_l dX1_init_26))))) (tk_b (tk_b (tk_b (tk_l dX1_init_27) (tk_b (tk_l dX1_init_28) (tk_l dX1_init_29))) (tk_b (tk_l dX1_init_33) (tk_b (tk_l dX1_init_36) (tk_l dX1_init_37)))) (tk_b (tk_b (tk_l dX1_init_40) (tk_b (tk_l dX1_init_41) (tk_l dX1_init_44))) (tk_b (tk_b (tk_l dX1_init_47) (tk_l dX1_init_48)) (tk_b (tk_l dX1_init_49) (tk_l dX1_init_51)))))) (tk_b (tk_b (tk_b (tk_b (tk_l dX1_init_54) (tk_b (tk_l dX1_init_55) (tk_l dX1_init_58))) (tk_b (tk_l dX1_init_59) (tk_b (tk_l dX1_init_62) (tk_l dX1_init_65)))) (tk_b (tk_b (tk_l dX1_init_66) (tk_b (tk_l dX1_init_69) (tk_l dX1_init_70))) (tk_b (tk_b (tk_l dX1_init_73) (tk_l dX1_init_76)) (tk_b (tk_l dX1_init_77) (tk_l dX1_init_80))))) (tk_b (tk_b (tk_b (tk_l dX1_init_81) (tk_b (tk_l dX1_init_84) (tk_l dX1_init_87))) (tk_b (tk_b (tk_l dX1_init_88) (tk_l dX1_init_91)) (tk_b (tk_l dX1_init_92) (tk_l dX1_init_95)))) (tk_b (tk_b (tk_l dX1_init_98) (tk_b (tk_l dX1_init_99) (tk_l dX1_init_100))) (tk_b (tk_b (tk_l dX1_init_101) (tk_l dX1_init_102)) (tk_b (tk_l dX1_init_105) (tk_l dX1_init_106))))))) (tk_b (tk_b (tk_b (tk_b (tk_b (tk_l dX1_init_109) (tk_b (tk_l dX1_init_110) (tk_l dX1_init_111))) (tk_b (tk_l dX1_init_112) (tk_b (tk_l dX1_init_113) (tk_l dX1_init_114)))) (tk_b (tk_b (tk_l dX1_init_115) (tk_b (tk_l dX1_init_116) (tk_l dX1_init_119))) (tk_b (tk_b (tk_l dX1_init_120) (tk_l dX1_init_123)) (tk_b (tk_l dX1_init_126) (tk_l dX1_init_127))))) (tk_b (tk_b (tk_b (tk_l dX1_init_130) (tk_b (tk_l dX1_init_133) (tk_l dX1_init_134))) (tk_b (tk_l dX1_init_137) (tk_b (tk_l dX1_init_140) (tk_l dX1_init_141)))) (tk_b (tk_b (tk_l dX1_init_142) (tk_b (tk_l dX1_init_143) (tk_l dX1_init_144))) (tk_b (tk_b (tk_l dX1_init_145) (tk_l dX1_init_146)) (tk_b (tk_l dX1_init_149) (tk_l dX1_init_150)))))) (tk_b (tk_b (tk_b (tk_b (tk_l dX1_init_153) (tk_b (tk_l dX1_init_156) (tk_l dX1_init_157))) (tk_b (tk_l dX1_init_158) (tk_b (tk_l dX1_init_159) (tk_l dX1_init_162)))) (tk_b (tk_b (tk_l dX1_init_163) (tk_b (tk_l dX1_init_166) (tk_l dX1_init_167))) (tk_b (tk_b (tk_l dX1_init_168) (tk_l dX1_init_171)) (tk_b (tk_l dX1_init_172) (tk_l dX1_init_175))))) (tk_b (tk_b (tk_b (tk_l dX1_init_176) (tk_b (tk_l dX1_init_177) (tk_l dX1_init_178))) (tk_b (tk_b (tk_l dX1_init_181) (tk_l dX1_init_182)) (tk_b (tk_l dX1_init_185) (tk_l dX1_init_186)))) (tk_b (tk_b (tk_l dX1_init_189) (tk_b (tk_l dX1_init_192) (tk_l dX1_init_193))) (tk_b (tk_b (tk_l dX1_init_196) (tk_l dX1_init_199)) (tk_b (tk_l dX1_init_202) (tk_l dX1_init_205))))))))
def tbX1_busy (pc : Nat) : Option (Instr × Nat) := (cond (Nat.ble pc 0) (cond (Nat.beq pc 0) (some (.aload_n 0, 1)) none) (cond (Nat.ble pc 1) (cond (Nat.beq pc 1) (some (.getfield 230, 3)) none) (cond (Nat.beq pc 4) (some (.ireturn, 1)) none)))
theorem tkX1_busy : tkAll cX1_busy tbX1_busy := fun pc => (tk_b (tk_l dX1_busy_0) (tk_b (tk_l dX1_busy_1) (tk_l dX1_busy_4)))
def tbX1_bookings (pc : Nat) : Option (Instr × Nat) := (cond (Nat.ble pc 1) (cond (Nat.ble pc 0) (cond (Nat.beq pc 0) (some (.aload_n 0, 1)) none) (cond (Nat.beq pc 1) (some (.getfield 38, 3)) none)) (cond (Nat.ble pc 4) (cond (Nat.beq pc 4) (some (.invokevirtual 146, 3)) none) (cond (Nat.beq pc 7) (some (.ireturn, 1)) none)))
theorem tkX1_bookings : tkAll cX1_bookings tbX1_bookings := fun pc => (tk_b (tk_b (tk_l dX1_bookings_0) (tk_l dX1_bookings_1)) (tk_b (tk_l dX1_bookings_4) (tk_l dX1_bookings_7)))
def tbX1_trains (pc : Nat) : Option (Instr × Nat) := (cond (Nat.ble pc 1) (cond (Nat.ble pc 0) (cond (Nat.beq pc 0) (some (.aload_n 0, 1)) none) (cond (Nat.beq pc 1) (some (.getfield 41, 3)) none)) (cond (Nat.ble pc 4) (cond (Nat.beq pc 4) (some (.invokevirtual 146, 3)) none) (cond (Nat.beq pc 7) (some (.ireturn, 1)) none)))
theorem tkX1_trains : tkAll cX1_trains tbX1_trains := fun pc => (tk_b (tk_b (tk_l dX1_trains_0) (tk_l dX1_trains_1)) (tk_b (tk_l dX1_trains_4) (tk_l dX1_trains_7)))
def tbX1_wagon (pc : Nat) : Option (Instr × Nat) := (cond (Nat.ble pc 56) (cond (Nat.ble pc 23) (cond (Nat.ble pc 7) (cond (Nat.ble pc 2) (cond (Nat.ble pc 0) (cond (Nat.beq pc 0) (some (.iload_n 1, 1)) none) (cond (Nat.ble pc 1) (cond (Nat.beq pc 1) (some (.iload_n 2, 1)) none) (cond (Nat.beq pc 2) (some (.invokestatic 160, 3)) none))) (cond (Nat.ble pc 5) (cond (Nat.beq pc 5) (some (.istore_n 3, 1)) none) (cond (Nat.ble pc 6) (cond (Nat.beq pc 6) (some (.aload_n 0, 1)) none) (cond (Nat.beq pc 7) (some (.getfield 16, 3)) none)))) (cond (Nat.ble pc 15) (cond (Nat.ble pc 10) (cond (Nat.beq pc 10) (some (.invokevirtual 146, 3)) none) (cond (Nat.ble pc 13) (cond (Nat.beq pc 13) (some (.bipush 30, 2)) none) (cond (Nat.beq pc 15) (some (.if_icmp .ge 26, 3)) none))) (cond (Nat.ble pc 19) (cond (Nat.ble pc 18) (cond (Nat.beq pc 18) (some (.aload_n 0, 1)) none) (cond (Nat.beq pc 19) (some (.getfield 10, 3)) none)) (cond (Nat.ble pc 22) (cond (Nat.beq pc 22) (some (.iload_n 3, 1)) none) (cond (Nat.beq pc 23) (some (.invokevirtual 74, 3)) none))))) (cond (Nat.ble pc 41) (cond (Nat.ble pc 32) (cond (Nat.ble pc 26) (cond (Nat.beq pc 26) (some (.checkcast 47, 3)) none) (cond (Nat.ble pc 29) (cond (Nat.beq pc 29) (some (.invokevirtual 78, 3)) none) (cond (Nat.beq pc 32) (some (.bipush 6, 2)) none))) (cond (Nat.ble pc 37) (cond (Nat.ble pc 34) (cond (Nat.beq pc 34) (some (.if_icmp .ge 7, 3)) none) (cond (Nat.beq pc 37) (some (.iconst 1, 1)) none)) (cond (Nat.ble pc 38) (cond (Nat.beq pc 38) (some (.goto 4, 3)) none) (cond (Nat.beq pc 41) (some (.iconst 0, 1)) none)))) (cond (Nat.ble pc 48) (cond (Nat.ble pc 42) (cond (Nat.beq pc 42) (some (.invokestatic 154, 3)) none) (cond (Nat.ble pc 45) (cond (Nat.beq pc 45) (some (.new 69, 3)) none) (cond (Nat.beq pc 48) (some (.dup, 1)) none))) (cond (Nat.ble pc 50) (cond (Nat.ble pc 49) (cond (Nat.beq pc 49) (some (.aload_n 0, 1)) none) (cond (Nat.beq pc 50) (some (.getfield 16, 3)) none)) (cond (Nat.ble pc 53) (cond (Nat.beq pc 53) (some (.invokevirtual 146, 3)) none) (cond (Nat.beq pc 56) (some (.iload_n 3, 1)) none)))))) (cond (Nat.ble pc 83) (cond (Nat.ble pc 68) (cond (Nat.ble pc 62) (cond (Nat.ble pc 57) (cond (Nat.beq pc 57) (some (.invokespecial 163, 3)) none) (cond (Nat.ble pc 60) (cond (Nat.beq pc 60) (some (.astore 4, 2)) none) (cond (Nat.beq pc 62) (some (.aload_n 0, 1)) none))) (cond (Nat.ble pc 63) (cond (Nat.beq pc 63) (some (.getfield 16, 3)) none) (cond (Nat.ble pc 66) (cond (Nat.beq pc 66) (some (.aload 4, 2)) none) (cond (Nat.beq pc 68) (some (.invokevirtual 50, 3)) none)))) (cond (Nat.ble pc 73) (cond (Nat.ble pc 71) (cond (Nat.beq pc 71) (some (.pop, 1)) none) (cond (Nat.ble pc 72) (cond (Nat.beq pc 72) (some (.aload_n 0, 1)) none) (cond (Nat.beq pc 73) (some (.getfield 10, 3)) none))) (cond (Nat.ble pc 77) (cond (Nat.ble pc 76) (cond (Nat.beq pc 76) (some (.iload_n 3, 1)) none) (cond (Nat.beq pc 77) (some (.invokevirtual 74, 3)) none)) (cond (Nat.ble pc 80) (cond (Nat.beq pc 80) (some (.checkcast 47, 3)) none) (cond (Nat.beq pc 83) (some (.aload 4, 2)) none))))) (cond (Nat.ble pc 98) (cond (Nat.ble pc 89) (cond (Nat.ble pc 85) (cond (Nat.beq pc 85) (some (.invokevirtual 164, 3)) none) (cond (Nat.ble pc 88) (cond (Nat.beq pc 88) (some (.aload_n 0, 1)) none) (cond (Nat.beq pc 89) (some (.getfield 44, 3)) none))) (cond (Nat.ble pc 95) (cond (Nat.ble pc 92) (cond (Nat.beq pc 92) (some (.new 168, 3)) none) (cond (Nat.beq pc 95) (some (.dup, 1)) none)) (cond (Nat.ble pc 96) (cond (Nat.beq pc 96) (some (.aload 4, 2)) none) (cond (Nat.beq pc 98) (some (.getfield 170, 3)) none)))) (cond (Nat.ble pc 105) (cond (Nat.ble pc 101) (cond (Nat.beq pc 101) (some (.iload_n 3, 1)) none) (cond (Nat.ble pc 102) (cond (Nat.beq pc 102) (some (.invokespecial 173, 3)) none) (cond (Nat.beq pc 105) (some (.invokevirtual 50, 3)) none))) (cond (Nat.ble pc 109) (cond (Nat.ble pc 108) (cond (Nat.beq pc 108) (some (.pop, 1)) none) (cond (Nat.beq pc 109) (some (.aload 4, 2)) none)) (cond (Nat.ble pc 111) (cond (Nat.beq pc 111) (some (.getfield 170, 3)) none) (cond (Nat.beq pc 114) (some (.ireturn, 1)) none)))))))
theorem tkX1_wagon : tkAll cX1_wagon tbX1_wagon := fun pc => (tk_b (tk_b (tk_b (tk_b (tk_b (tk_l dX1_wagon_0) (tk_b (tk_l dX1_wagon_1) (tk_l dX1_wagon_2))) (tk_b (tk_l dX1_wagon_5) (tk_b (tk_l dX1_wagon_6) (tk_l dX1_wagon_7)))) (tk_b (tk_b (tk_l dX1_wagon_10) (tk_b (tk_l dX1_wagon_13) (tk_l dX1_wagon_15))) (tk_b (tk_b (tk_l dX1_wagon_18) (tk_l dX1_wagon_19)) (tk_b (tk_l dX1_wagon_22) (tk_l dX1_wagon_23))))) (tk_b (tk_b (tk_b (tk_l dX1_wagon_26) (tk_b (tk_l dX1_wagon_29) (tk_l dX1_wagon_32))) (tk_b (tk_b (tk_l dX1_wagon_34) (tk_l dX1_wagon_37)) (tk_b (tk_l dX1_wagon_38) (tk_l dX1_wagon_41)))) (tk_b (tk_b (tk_l dX1_wagon_42) (tk_b (tk_l dX1_wagon_45) (tk_l dX1_wagon_48))) (tk_b (tk_b (tk_l dX1_wagon_49) (tk_l dX1_wagon_50)) (tk_b (tk_l dX1_wagon_53) (tk_l dX1_wagon_56)))))) (tk_b (tk_b (tk_b (tk_b (tk_l dX1_wagon_57) (tk_b (tk_l dX1_wagon_60) (tk_l dX1_wagon_62))) (tk_b (tk_l dX1_wagon_63) (tk_b (tk_l dX1_wagon_66) (tk_l dX1_wagon_68)))) (tk_b (tk_b (tk_l dX1_wagon_71) (tk_b (tk_l dX1_wagon_72) (tk_l dX1_wagon_73))) (tk_b (tk_b (tk_l dX1_wagon_76) (tk_l dX1_wagon_77)) (tk_b (tk_l dX1_wagon_80) (tk_l dX1_wagon_83))))) (tk_b (tk_b (tk_b (tk_l dX1_wagon_85) (tk_b (tk_l dX1_wagon_88) (tk_l dX1_wagon_89))) (tk_b (tk_b (tk_l dX1_wagon_92) (tk_l dX1_wagon_95)) (tk_b (tk_l dX1_wagon_96) (tk_l dX1_wagon_98)))) (tk_b (tk_b (tk_l dX1_wagon_101) (tk_b (tk_l dX1_wagon_102) (tk_l dX1_wagon_105))) (tk_b (tk_b (tk_l dX1_wagon_108) (tk_l dX1_wagon_109)) (tk_b (tk_l dX1_wagon_111) (tk_l dX1_wagon_114)))))))
def tbX1_trackOf (pc : Nat) : Option (Instr × Nat) := (cond (Nat.ble pc 8) (cond (Nat.ble pc 2) (cond (Nat.ble pc 0) (cond (Nat.beq pc 0) (some (.iload_n 0, 1)) none) (cond (Nat.ble pc 1) (cond (Nat.beq pc 1) (some (.iconst 0, 1)) none) (cond (Nat.beq pc 2) (some (.iconst 2, 1)) none))) (cond (Nat.ble pc 6) (cond (Nat.ble pc 3) (cond (Nat.beq pc 3) (some (.invokestatic 139, 3)) none) (cond (Nat.beq pc 6) (some (.iload_n 1, 1)) none)) (cond (Nat.ble pc 7) (cond (Nat.beq pc 7) (some (.iconst 0, 1)) none) (cond (Nat.beq pc 8) (some (.iconst 4, 1)) none)))) (cond (Nat.ble pc 13) (cond (Nat.ble pc 9) (cond (Nat.beq pc 9) (some (.invokestatic 139, 3)) none) (cond (Nat.ble pc 12) (cond (Nat.beq pc 12) (some (.iconst 5, 1)) none) (cond (Nat.beq pc 13) (some (.iload_n 0, 1)) none))) (cond (Nat.ble pc 15) (cond (Nat.ble pc 14) (cond (Nat.beq pc 14) (some (.imul, 1)) none) (cond (Nat.beq pc 15) (some (.iload_n 1, 1)) none)) (cond (Nat.ble pc 16) (cond (Nat.beq pc 16) (some (.iadd, 1)) none) (cond (Nat.beq pc 17) (some (.ireturn, 1)) none)))))
theorem tkX1_trackOf : tkAll cX1_trackOf tbX1_trackOf := fun pc => (tk_b (tk_b (tk_b (tk_l dX1_trackOf_0) (tk_b (tk_l dX1_trackOf_1) (tk_l dX1_trackOf_2))) (tk_b (tk_b (tk_l dX1_trackOf_3) (tk_l dX1_trackOf_6)) (tk_b (tk_l dX1_trackOf_7) (tk_l dX1_trackOf_8)))) (tk_b (tk_b (tk_l dX1_trackOf_9) (tk_b (tk_l dX1_trackOf_12) (tk_l dX1_trackOf_13))) (tk_b (tk_b (tk_l dX1_trackOf_14) (tk_l dX1_trackOf_15)) (tk_b (tk_l dX1_trackOf_16) (tk_l dX1_trackOf_17)))))
def tbX1_limited (pc : Nat) : Option (Instr × Nat) := (cond (Nat.ble pc 6) (cond (Nat.ble pc 1) (cond (Nat.ble pc 0) (cond (Nat.beq pc 0) (some (.iload_n 0, 1)) none) (cond (Nat.beq pc 1) (some (.iload_n 1, 1)) none)) (cond (Nat.ble pc 2) (cond (Nat.beq pc 2) (some (.if_icmp .lt 8, 3)) none) (cond (Nat.ble pc 5) (cond (Nat.beq pc 5) (some (.iload_n 0, 1)) none) (cond (Nat.beq pc 6) (some (.iload_n 2, 1)) none)))) (cond (Nat.ble pc 13) (cond (Nat.ble pc 7) (cond (Nat.beq pc 7) (some (.if_icmp .le 11, 3)) none) (cond (Nat.ble pc 10) (cond (Nat.beq pc 10) (some (.new 130, 3)) none) (cond (Nat.beq pc 13) (some (.dup, 1)) none))) (cond (Nat.ble pc 14) (cond (Nat.beq pc 14) (some (.invokespecial 132, 3)) none) (cond (Nat.ble pc 17) (cond (Nat.beq pc 17) (some (.athrow, 1)) none) (cond (Nat.beq pc 18) (some (.return_, 1)) none)))))
theorem tkX1_limited : tkAll cX1_limited tbX1_limited := fun pc => (tk_b (tk_b (tk_b (tk_l dX1_limited_0) (tk_l dX1_limited_1)) (tk_b (tk_l dX1_limited_2) (tk_b (tk_l dX1_limited_5) (tk_l dX1_limited_6)))) (tk_b (tk_b (tk_l dX1_limited_7) (tk_b (tk_l dX1_limited_10) (tk_l dX1_limited_13))) (tk_b (tk_l dX1_limited_14) (tk_b (tk_l dX1_limited_17) (tk_l dX1_limited_18)))))
def tbX1_allowed (pc : Nat) : Option (Instr × Nat) := (cond (Nat.ble pc 4) (cond (Nat.ble pc 0) (cond (Nat.beq pc 0) (some (.iload_n 0, 1)) none) (cond (Nat.ble pc 1) (cond (Nat.beq pc 1) (some (.ifCond .ne 11, 3)) none) (cond (Nat.beq pc 4) (some (.new 133, 3)) none))) (cond (Nat.ble pc 8) (cond (Nat.ble pc 7) (cond (Nat.beq pc 7) (some (.dup, 1)) none) (cond (Nat.beq pc 8) (some (.invokespecial 135, 3)) none)) (cond (Nat.ble pc 11) (cond (Nat.beq pc 11) (some (.athrow, 1)) none) (cond (Nat.beq pc 12) (some (.return_, 1)) none))))
theorem tkX1_allowed : tkAll cX1_allowed tbX1_allowed := fun pc => (tk_b (tk_b (tk_l dX1_allowed_0) (tk_b (tk_l dX1_allowed_1) (tk_l dX1_allowed_4))) (tk_b (tk_b (tk_l dX1_allowed_7) (tk_l dX1_allowed_8)) (tk_b (tk_l dX1_allowed_11) (tk_l dX1_allowed_12))))
def tbX1_shunt (pc : Nat) : Option (Instr × Nat) := (cond (Nat.ble pc 94) (cond (Nat.ble pc 41) (cond (Nat.ble pc 17) (cond (Nat.ble pc 7) (cond (Nat.ble pc 2) (cond (Nat.ble pc 0) (cond (Nat.beq pc 0) (some (.iload_n 1, 1)) none) (cond (Nat.ble pc 1) (cond (Nat.beq pc 1) (some (.iconst 0, 1)) none) (cond (Nat.beq pc 2) (some (.iconst 2, 1)) none))) (cond (Nat.ble pc 3) (cond (Nat.beq pc 3) (some (.invokestatic 139, 3)) none) (cond (Nat.ble pc 6) (cond (Nat.beq pc 6) (some (.iload_n 2, 1)) none) (cond (Nat.beq pc 7) (some (.iload_n 3, 1)) none)))) (cond (Nat.ble pc 12) (cond (Nat.ble pc 8) (cond (Nat.beq pc 8) (some (.iconst 5, 1)) none) (cond (Nat.ble pc 9) (cond (Nat.beq pc 9) (some (.invokestatic 143, 3)) none) (cond (Nat.beq pc 12) (some (.iload 4, 2)) none))) (cond (Nat.ble pc 14) (cond (Nat.beq pc 14) (some (.iconst 1, 1)) none) (cond (Nat.ble pc 15) (cond (Nat.beq pc 15) (some (.bipush 6, 2)) none) (cond (Nat.beq pc 17) (some (.invokestatic 139, 3)) none))))) (cond (Nat.ble pc 27) (cond (Nat.ble pc 24) (cond (Nat.ble pc 20) (cond (Nat.beq pc 20) (some (.aload_n 0, 1)) none) (cond (Nat.ble pc 21) (cond (Nat.beq pc 21) (some (.getfield 10, 3)) none) (cond (Nat.beq pc 24) (some (.iconst 5, 1)) none))) (cond (Nat.ble pc 25) (cond (Nat.beq pc 25) (some (.iload_n 1, 1)) none) (cond (Nat.ble pc 26) (cond (Nat.beq pc 26) (some (.imul, 1)) none) (cond (Nat.beq pc 27) (some (.iload_n 2, 1)) none)))) (cond (Nat.ble pc 32) (cond (Nat.ble pc 28) (cond (Nat.beq pc 28) (some (.iadd, 1)) none) (cond (Nat.ble pc 29) (cond (Nat.beq pc 29) (some (.invokevirtual 74, 3)) none) (cond (Nat.beq pc 32) (some (.checkcast 47, 3)) none))) (cond (Nat.ble pc 37) (cond (Nat.ble pc 35) (cond (Nat.beq pc 35) (some (.astore 5, 2)) none) (cond (Nat.beq pc 37) (some (.aload_n 0, 1)) none)) (cond (Nat.ble pc 38) (cond (Nat.beq pc 38) (some (.getfield 10, 3)) none) (cond (Nat.beq pc 41) (some (.iconst 5, 1)) none)))))) (cond (Nat.ble pc 66) (cond (Nat.ble pc 49) (cond (Nat.ble pc 44) (cond (Nat.ble pc 42) (cond (Nat.beq pc 42) (some (.iload_n 1, 1)) none) (cond (Nat.ble pc 43) (cond (Nat.beq pc 43) (some (.imul, 1)) none) (cond (Nat.beq pc 44) (some (.iload_n 3, 1)) none))) (cond (Nat.ble pc 45) (cond (Nat.beq pc 45) (some (.iadd, 1)) none) (cond (Nat.ble pc 46) (cond (Nat.beq pc 46) (some (.invokevirtual 74, 3)) none) (cond (Nat.beq pc 49) (some (.checkcast 47, 3)) none)))) (cond (Nat.ble pc 56) (cond (Nat.ble pc 52) (cond (Nat.beq pc 52) (some (.astore 6, 2)) none) (cond (Nat.ble pc 54) (cond (Nat.beq pc 54) (some (.aload 5, 2)) none) (cond (Nat.beq pc 56) (some (.invokevirtual 78, 3)) none))) (cond (Nat.ble pc 61) (cond (Nat.ble pc 59) (cond (Nat.beq pc 59) (some (.iload 4, 2)) none) (cond (Nat.beq pc 61) (some (.if_icmp .lt 20, 3)) none)) (cond (Nat.ble pc 64) (cond (Nat.beq pc 64) (some (.aload 6, 2)) none) (cond (Nat.beq pc 66) (some (.invokevirtual 78, 3)) none))))) (cond (Nat.ble pc 78) (cond (Nat.ble pc 72) (cond (Nat.ble pc 69) (cond (Nat.beq pc 69) (some (.iload 4, 2)) none) (cond (Nat.ble pc 71) (cond (Nat.beq pc 71) (some (.iadd, 1)) none) (cond (Nat.beq pc 72) (some (.bipush 6, 2)) none))) (cond (Nat.ble pc 74) (cond (Nat.beq pc 74) (some (.if_icmp .gt 7, 3)) none) (cond (Nat.ble pc 77) (cond (Nat.beq pc 77) (some (.iconst 1, 1)) none) (cond (Nat.beq pc 78) (some (.goto 4, 3)) none)))) (cond (Nat.ble pc 85) (cond (Nat.ble pc 81) (cond (Nat.beq pc 81) (some (.iconst 0, 1)) none) (cond (Nat.ble pc 82) (cond (Nat.beq pc 82) (some (.invokestatic 154, 3)) none) (cond (Nat.beq pc 85) (some (.new 174, 3)) none))) (cond (Nat.ble pc 89) (cond (Nat.ble pc 88) (cond (Nat.beq pc 88) (some (.dup, 1)) none) (cond (Nat.beq pc 89) (some (.invokespecial 176, 3)) none)) (cond (Nat.ble pc 92) (cond (Nat.beq pc 92) (some (.astore 7, 2)) none) (cond (Nat.beq pc 94) (some (.aload 7, 2)) none))))))) (cond (Nat.ble pc 155) (cond (Nat.ble pc 125) (cond (Nat.ble pc 108) (cond (Nat.ble pc 101) (cond (Nat.ble pc 96) (cond (Nat.beq pc 96) (some (.invokevirtual 177, 3)) none) (cond (Nat.ble pc 99) (cond (Nat.beq pc 99) (some (.iload 4, 2)) none) (cond (Nat.beq pc 101) (some (.if_icmp .ge 19, 3)) none))) (cond (Nat.ble pc 104) (cond (Nat.beq pc 104) (some (.aload 7, 2)) none) (cond (Nat.ble pc 106) (cond (Nat.beq pc 106) (some (.aload 5, 2)) none) (cond (Nat.beq pc 108) (some (.invokevirtual 178, 3)) none)))) (cond (Nat.ble pc 117) (cond (Nat.ble pc 111) (cond (Nat.beq pc 111) (some (.checkcast 69, 3)) none) (cond (Nat.ble pc 114) (cond (Nat.beq pc 114) (some (.invokevirtual 181, 3)) none) (cond (Nat.beq pc 117) (some (.goto (-23), 3)) none))) (cond (Nat.ble pc 120) (cond (Nat.beq pc 120) (some (.aload 7, 2)) none) (cond (Nat.ble pc 122) (cond (Nat.beq pc 122) (some (.invokevirtual 184, 3)) none) (cond (Nat.beq pc 125) (some (.astore 8, 2)) none))))) (cond (Nat.ble pc 144) (cond (Nat.ble pc 134) (cond (Nat.ble pc 127) (cond (Nat.beq pc 127) (some (.aload 8, 2)) none) (cond (Nat.ble pc 129) (cond (Nat.beq pc 129) (some (.invokeinterface 112 1, 5)) none) (cond (Nat.beq pc 134) (some (.ifCond .eq 35, 3)) none))) (cond (Nat.ble pc 137) (cond (Nat.beq pc 137) (some (.aload 8, 2)) none) (cond (Nat.ble pc 139) (cond (Nat.beq pc 139) (some (.invokeinterface 117 1, 5)) none) (cond (Nat.beq pc 144) (some (.checkcast 69, 3)) none)))) (cond (Nat.ble pc 151) (cond (Nat.ble pc 147) (cond (Nat.beq pc 147) (some (.astore 9, 2)) none) (cond (Nat.ble pc 149) (cond (Nat.beq pc 149) (some (.aload 9, 2)) none) (cond (Nat.beq pc 151) (some (.iconst 5, 1)) none))) (cond (Nat.ble pc 153) (cond (Nat.ble pc 152) (cond (Nat.beq pc 152) (some (.iload_n 1, 1)) none) (cond (Nat.beq pc 153) (some (.imul, 1)) none)) (cond (Nat.ble pc 154) (cond (Nat.beq pc 154) (some (.iload_n 3, 1)) none) (cond (Nat.beq pc 155) (some (.iadd, 1)) none)))))) (cond (Nat.ble pc 180) (cond (Nat.ble pc 169) (cond (Nat.ble pc 161) (cond (Nat.ble pc 156) (cond (Nat.beq pc 156) (some (.putfield 185, 3)) none) (cond (Nat.ble pc 159) (cond (Nat.beq pc 159) (some (.aload 6, 2)) none) (cond (Nat.beq pc 161) (some (.aload 9, 2)) none))) (cond (Nat.ble pc 163) (cond (Nat.beq pc 163) (some (.invokevirtual 164, 3)) none) (cond (Nat.ble pc 166) (cond (Nat.beq pc 166) (some (.goto (-39), 3)) none) (cond (Nat.beq pc 169) (some (.aload_n 0, 1)) none)))) (cond (Nat.ble pc 176) (cond (Nat.ble pc 170) (cond (Nat.beq pc 170) (some (.getfield 44, 3)) none) (cond (Nat.ble pc 173) (cond (Nat.beq pc 173) (some (.new 188, 3)) none) (cond (Nat.beq pc 176) (some (.dup, 1)) none))) (cond (Nat.ble pc 178) (cond (Nat.ble pc 177) (cond (Nat.beq pc 177) (some (.iconst 5, 1)) none) (cond (Nat.beq pc 178) (some (.iload_n 1, 1)) none)) (cond (Nat.ble pc 179) (cond (Nat.beq pc 179) (some (.imul, 1)) none) (cond (Nat.beq pc 180) (some (.iload_n 2, 1)) none))))) (cond (Nat.ble pc 186) (cond (Nat.ble pc 183) (cond (Nat.ble pc 181) (cond (Nat.beq pc 181) (some (.iadd, 1)) none) (cond (Nat.ble pc 182) (cond (Nat.beq pc 182) (some (.iconst 5, 1)) none) (cond (Nat.beq pc 183) (some (.iload_n 1, 1)) none))) (cond (Nat.ble pc 184) (cond (Nat.beq pc 184) (some (.imul, 1)) none) (cond (Nat.ble pc 185) (cond (Nat.beq pc 185) (some (.iload_n 3, 1)) none) (cond (Nat.beq pc 186) (some (.iadd, 1)) none)))) (cond (Nat.ble pc 192) (cond (Nat.ble pc 187) (cond (Nat.beq pc 187) (some (.iload 4, 2)) none) (cond (Nat.ble pc 189) (cond (Nat.beq pc 189) (some (.invokespecial 190, 3)) none) (cond (Nat.beq pc 192) (some (.invokevirtual 50, 3)) none))) (cond (Nat.ble pc 196) (cond (Nat.ble pc 195) (cond (Nat.beq pc 195) (some (.pop, 1)) none) (cond (Nat.beq pc 196) (some (.aload 6, 2)) none)) (cond (Nat.ble pc 198) (cond (Nat.beq pc 198) (some (.invokevirtual 78, 3)) none) (cond (Nat.beq pc 201) (some (.ireturn, 1)) none))))))))
theorem tkX1_shunt : tkAll cX1_shunt tbX1_shunt := fun pc => (tk_b (tk_b (tk_b (tk_b (tk_b (tk_b (tk_l dX1_shunt_0) (tk_b (tk_l dX1_shunt_1) (tk_l dX1_shunt_2))) (tk_b (tk_l dX1_shunt_3) (tk_b (tk_l dX1_shunt_6) (tk_l dX1_shunt_7)))) (tk_b (tk_b (tk_l dX1_shunt_8) (tk_b (tk_l dX1_shunt_9) (tk_l dX1_shunt_12))) (tk_b (tk_l dX1_shunt_14) (tk_b (tk_l dX1_shunt_15) (tk_l dX1_shunt_17))))) (tk_b (tk_b (tk_b (tk_l dX1_shunt_20) (tk_b (tk_l dX1_shunt_21) (tk_l dX1_shunt_24))) (tk_b (tk_l dX1_shunt_25) (tk_b (tk_l dX1_shunt_26) (tk_l dX1_shunt_27)))) (tk_b (tk_b (tk_l dX1_shunt_28) (tk_b (tk_l dX1_shunt_29) (tk_l dX1_shunt_32))) (tk_b (tk_b (tk_l dX1_shunt_35) (tk_l dX1_shunt_37)) (tk_b (tk_l dX1_shunt_38) (tk_l dX1_shunt_41)))))) (tk_b (tk_b (tk_b (tk_b (tk_l dX1_shunt_42) (tk_b (tk_l dX1_shunt_43) (tk_l dX1_shunt_44))) (tk_b (tk_l dX1_shunt_45) (tk_b (tk_l dX1_shunt_46) (tk_l dX1_shunt_49)))) (tk_b (tk_b (tk_l dX1_shunt_52) (tk_b (tk_l dX1_shunt_54) (tk_l dX1_shunt_56))) (tk_b (tk_b (tk_l dX1_shunt_59) (tk_l dX1_shunt_61)) (tk_b (tk_l dX1_shunt_64) (tk_l dX1_shunt_66))))) (tk_b (tk_b (tk_b (tk_l dX1_shunt_69) (tk_b (tk_l dX1_shunt_71) (tk_l dX1_shunt_72))) (tk_b (tk_l dX1_shunt_74) (tk_b (tk_l dX1_shunt_77) (tk_l dX1_shunt_78)))) (tk_b (tk_b (tk_l dX1_shunt_81) (tk_b (tk_l dX1_shunt_82) (tk_l dX1_shunt_85))) (tk_b (tk_b (tk_l dX1_shunt_88) (tk_l dX1_shunt_89)) (tk_b (tk_l dX1_shunt_92) (tk_l dX1_shunt_94))))))) (tk_b (tk_b (tk_b (tk_b (tk_b (tk_l dX1_shunt_96) (tk_b (tk_l dX1_shunt_99) (tk_l dX1_shunt_101))) (tk_b (tk_l dX1_shunt_104) (tk_b (tk_l dX1_shunt_106) (tk_l dX1_shunt_108)))) (tk_b (tk_b (tk_l dX1_shunt_111) (tk_b (tk_l dX1_shunt_114) (tk_l dX1_shunt_117))) (tk_b (tk_l dX1_shunt_120) (tk_b (tk_l dX1_shunt_122) (tk_l dX1_shunt_125))))) (tk_b (tk_b (tk_b (tk_l dX1_shunt_127) (tk_b (tk_l dX1_shunt_129) (tk_l dX1_shunt_134))) (tk_b (tk_l dX1_shunt_137) (tk_b (tk_l dX1_shunt_139) (tk_l dX1_shunt_144)))) (tk_b (tk_b (tk_l dX1_shunt_147) (tk_b (tk_l dX1_shunt_149) (tk_l dX1_shunt_151))) (tk_b (tk_b (tk_l dX1_shunt_152) (tk_l dX1_shunt_153)) (tk_b (tk_l dX1_shunt_154) (tk_l dX1_shunt_155)))))) (tk_b (tk_b (tk_b (tk_b (tk_l dX1_shunt_156) (tk_b (tk_l dX1_shunt_159) (tk_l dX1_shunt_161))) (tk_b (tk_l dX1_shunt_163) (tk_b (tk_l dX1_shunt_166) (tk_l dX1_shunt_169)))) (tk_b (tk_b (tk_l dX1_shunt_170) (tk_b (tk_l dX1_shunt_173) (tk_l dX1_shunt_176))) (tk_b (tk_b (tk_l dX1_shunt_177) (tk_l dX1_shunt_178)) (tk_b (tk_l dX1_shunt_179) (tk_l dX1_shunt_180))))) (tk_b (tk_b (tk_b (tk_l dX1_shunt_181) (tk_b (tk_l dX1_shunt_182) (tk_l dX1_shunt_183))) (tk_b (tk_l dX1_shunt_184) (tk_b (tk_l dX1_shunt_185) (tk_l dX1_shunt_186)))) (tk_b (tk_b (tk_l dX1_shunt_187) (tk_b (tk_l dX1_shunt_189) (tk_l dX1_shunt_192))) (tk_b (tk_b (tk_l dX1_shunt_195) (tk_l dX1_shunt_196)) (tk_b (tk_l dX1_shunt_198) (tk_l dX1_shunt_201))))))))
def tbX1_unlike (pc : Nat) : Option (Instr × Nat) := (cond (Nat.ble pc 12) (cond (Nat.ble pc 4) (cond (Nat.ble pc 1) (cond (Nat.ble pc 0) (cond (Nat.beq pc 0) (some (.iload_n 0, 1)) none) (cond (Nat.beq pc 1) (some (.iconst 0, 1)) none)) (cond (Nat.ble pc 2) (cond (Nat.beq pc 2) (some (.iload_n 2, 1)) none) (cond (Nat.ble pc 3) (cond (Nat.beq pc 3) (some (.iconst 1, 1)) none) (cond (Nat.beq pc 4) (some (.isub, 1)) none)))) (cond (Nat.ble pc 9) (cond (Nat.ble pc 5) (cond (Nat.beq pc 5) (some (.invokestatic 139, 3)) none) (cond (Nat.ble pc 8) (cond (Nat.beq pc 8) (some (.iload_n 1, 1)) none) (cond (Nat.beq pc 9) (some (.iconst 0, 1)) none))) (cond (Nat.ble pc 10) (cond (Nat.beq pc 10) (some (.iload_n 2, 1)) none) (cond (Nat.ble pc 11) (cond (Nat.beq pc 11) (some (.iconst 1, 1)) none) (cond (Nat.beq pc 12) (some (.isub, 1)) none))))) (cond (Nat.ble pc 21) (cond (Nat.ble pc 16) (cond (Nat.ble pc 13) (cond (Nat.beq pc 13) (some (.invokestatic 139, 3)) none) (cond (Nat.beq pc 16) (some (.iload_n 0, 1)) none)) (cond (Nat.ble pc 17) (cond (Nat.beq pc 17) (some (.iload_n 1, 1)) none) (cond (Nat.ble pc 18) (cond (Nat.beq pc 18) (some (.if_icmp .ne 7, 3)) none) (cond (Nat.beq pc 21) (some (.iconst (-1), 1)) none)))) (cond (Nat.ble pc 26) (cond (Nat.ble pc 22) (cond (Nat.beq pc 22) (some (.goto 4, 3)) none) (cond (Nat.ble pc 25) (cond (Nat.beq pc 25) (some (.iconst 0, 1)) none) (cond (Nat.beq pc 26) (some (.iconst 0, 1)) none))) (cond (Nat.ble pc 27) (cond (Nat.beq pc 27) (some (.iconst 0, 1)) none) (cond (Nat.ble pc 28) (cond (Nat.beq pc 28) (some (.invokestatic 139, 3)) none) (cond (Nat.beq pc 31) (some (.return_, 1)) none))))))
theorem tkX1_unlike : tkAll cX1_unlike tbX1_unlike := fun pc => (tk_b (tk_b (tk_b (tk_b (tk_l dX1_unlike_0) (tk_l dX1_unlike_1)) (tk_b (tk_l dX1_unlike_2) (tk_b (tk_l dX1_unlike_3) (tk_l dX1_unlike_4)))) (tk_b (tk_b (tk_l dX1_unlike_5) (tk_b (tk_l dX1_unlike_8) (tk_l dX1_unlike_9))) (tk_b (tk_l dX1_unlike_10) (tk_b (tk_l dX1_unlike_11) (tk_l dX1_unlike_12))))) (tk_b (tk_b (tk_b (tk_l dX1_unlike_13) (tk_l dX1_unlike_16)) (tk_b (tk_l dX1_unlike_17) (tk_b (tk_l dX1_unlike_18) (tk_l dX1_unlike_21)))) (tk_b (tk_b (tk_l dX1_unlike_22) (tk_b (tk_l dX1_unlike_25) (tk_l dX1_unlike_26))) (tk_b (tk_l dX1_unlike_27) (tk_b (tk_l dX1_unlike_28) (tk_l dX1_unlike_31))))))
def tbX1_wash (pc : Nat) : Option (Instr × Nat) := (cond (Nat.ble pc 24) (cond (Nat.ble pc 9) (cond (Nat.ble pc 4) (cond (Nat.ble pc 0) (cond (Nat.beq pc 0) (some (.aload_n 0, 1)) none) (cond (Nat.ble pc 1) (cond (Nat.beq pc 1) (some (.getfield 10, 3)) none) (cond (Nat.beq pc 4) (some (.iload_n 1, 1)) none))) (cond (Nat.ble pc 5) (cond (Nat.beq pc 5) (some (.iconst 0, 1)) none) (cond (Nat.ble pc 6) (cond (Nat.beq pc 6) (some (.invokestatic 160, 3)) none) (cond (Nat.beq pc 9) (some (.invokevirtual 74, 3)) none)))) (cond (Nat.ble pc 16) (cond (Nat.ble pc 12) (cond (Nat.beq pc 12) (some (.checkcast 47, 3)) none) (cond (Nat.ble pc 15) (cond (Nat.beq pc 15) (some (.astore_n 2, 1)) none) (cond (Nat.beq pc 16) (some (.aload_n 2, 1)) none))) (cond (Nat.ble pc 20) (cond (Nat.ble pc 17) (cond (Nat.beq pc 17) (some (.invokevirtual 192, 3)) none) (cond (Nat.beq pc 20) (some (.ifCond .ne 7, 3)) none)) (cond (Nat.ble pc 23) (cond (Nat.beq pc 23) (some (.iconst 1, 1)) none) (cond (Nat.beq pc 24) (some (.goto 4, 3)) none))))) (cond (Nat.ble pc 41) (cond (Nat.ble pc 31) (cond (Nat.ble pc 27) (cond (Nat.beq pc 27) (some (.iconst 0, 1)) none) (cond (Nat.ble pc 28) (cond (Nat.beq pc 28) (some (.invokestatic 154, 3)) none) (cond (Nat.beq pc 31) (some (.aload_n 2, 1)) none))) (cond (Nat.ble pc 35) (cond (Nat.ble pc 32) (cond (Nat.beq pc 32) (some (.invokevirtual 195, 3)) none) (cond (Nat.beq pc 35) (some (.checkcast 69, 3)) none)) (cond (Nat.ble pc 38) (cond (Nat.beq pc 38) (some (.getfield 68, 3)) none) (cond (Nat.beq pc 41) (some (.istore_n 3, 1)) none)))) (cond (Nat.ble pc 46) (cond (Nat.ble pc 42) (cond (Nat.beq pc 42) (some (.aload_n 2, 1)) none) (cond (Nat.ble pc 43) (cond (Nat.beq pc 43) (some (.invokevirtual 195, 3)) none) (cond (Nat.beq pc 46) (some (.checkcast 69, 3)) none))) (cond (Nat.ble pc 50) (cond (Nat.ble pc 49) (cond (Nat.beq pc 49) (some (.iconst (-1), 1)) none) (cond (Nat.beq pc 50) (some (.putfield 68, 3)) none)) (cond (Nat.ble pc 53) (cond (Nat.beq pc 53) (some (.iload_n 3, 1)) none) (cond (Nat.beq pc 54) (some (.ireturn, 1)) none))))))
theorem tkX1_wash : tkAll cX1_wash tbX1_wash := fun pc => (tk_b (tk_b (tk_b (tk_b (tk_l dX1_wash_0) (tk_b (tk_l dX1_wash_1) (tk_l dX1_wash_4))) (tk_b (tk_l dX1_wash_5) (tk_b (tk_l dX1_wash_6) (tk_l dX1_wash_9)))) (tk_b (tk_b (tk_l dX1_wash_12) (tk_b (tk_l dX1_wash_15) (tk_l dX1_wash_16))) (tk_b (tk_b (tk_l dX1_wash_17) (tk_l dX1_wash_20)) (tk_b (tk_l dX1_wash_23) (tk_l dX1_wash_24))))) (tk_b (tk_b (tk_b (tk_l dX1_wash_27) (tk_b (tk_l dX1_wash_28) (tk_l dX1_wash_31))) (tk_b (tk_b (tk_l dX1_wash_32) (tk_l dX1_wash_35)) (tk_b (tk_l dX1_wash_38) (tk_l dX1_wash_41)))) (tk_b (tk_b (tk_l dX1_wash_42) (tk_b (tk_l dX1_wash_43) (tk_l dX1_wash_46))) (tk_b (tk_b (tk_l dX1_wash_49) (tk_l dX1_wash_50)) (tk_b (tk_l dX1_wash_53) (tk_l dX1_wash_54))))))
def tbX1_follow (pc : Nat) : Option (Instr × Nat) := (cond (Nat.ble pc 18) (cond (Nat.ble pc 7) (cond (Nat.ble pc 2) (cond (Nat.ble pc 0) (cond (Nat.beq pc 0) (some (.iload_n 1, 1)) none) (cond (Nat.ble pc 1) (cond (Nat.beq pc 1) (some (.iload_n 2, 1)) none) (cond (Nat.beq pc 2) (some (.iconst 4, 1)) none))) (cond (Nat.ble pc 3) (cond (Nat.beq pc 3) (some (.invokestatic 143, 3)) none) (cond (Nat.ble pc 6) (cond (Nat.beq pc 6) (some (.aload_n 0, 1)) none) (cond (Nat.beq pc 7) (some (.getfield 21, 3)) none)))) (cond (Nat.ble pc 12) (cond (Nat.ble pc 10) (cond (Nat.beq pc 10) (some (.iload_n 1, 1)) none) (cond (Nat.ble pc 11) (cond (Nat.beq pc 11) (some (.aaload, 1)) none) (cond (Nat.beq pc 12) (some (.iload_n 2, 1)) none))) (cond (Nat.ble pc 14) (cond (Nat.ble pc 13) (cond (Nat.beq pc 13) (some (.aload_n 0, 1)) none) (cond (Nat.beq pc 14) (some (.getfield 21, 3)) none)) (cond (Nat.ble pc 17) (cond (Nat.beq pc 17) (some (.iload_n 1, 1)) none) (cond (Nat.beq pc 18) (some (.aaload, 1)) none))))) (cond (Nat.ble pc 29) (cond (Nat.ble pc 21) (cond (Nat.ble pc 19) (cond (Nat.beq pc 19) (some (.iload_n 2, 1)) none) (cond (Nat.ble pc 20) (cond (Nat.beq pc 20) (some (.baload, 1)) none) (cond (Nat.beq pc 21) (some (.ifCond .ne 7, 3)) none))) (cond (Nat.ble pc 25) (cond (Nat.ble pc 24) (cond (Nat.beq pc 24) (some (.iconst 1, 1)) none) (cond (Nat.beq pc 25) (some (.goto 4, 3)) none)) (cond (Nat.ble pc 28) (cond (Nat.beq pc 28) (some (.iconst 0, 1)) none) (cond (Nat.beq pc 29) (some (.bastore, 1)) none)))) (cond (Nat.ble pc 34) (cond (Nat.ble pc 30) (cond (Nat.beq pc 30) (some (.aload_n 0, 1)) none) (cond (Nat.ble pc 31) (cond (Nat.beq pc 31) (some (.getfield 21, 3)) none) (cond (Nat.beq pc 34) (some (.iload_n 1, 1)) none))) (cond (Nat.ble pc 36) (cond (Nat.ble pc 35) (cond (Nat.beq pc 35) (some (.aaload, 1)) none) (cond (Nat.beq pc 36) (some (.iload_n 2, 1)) none)) (cond (Nat.ble pc 37) (cond (Nat.beq pc 37) (some (.baload, 1)) none) (cond (Nat.beq pc 38) (some (.ireturn, 1)) none))))))
theorem tkX1_follow : tkAll cX1_follow tbX1_follow := fun pc => (tk_b (tk_b (tk_b (tk_b (tk_l dX1_follow_0) (tk_b (tk_l dX1_follow_1) (tk_l dX1_follow_2))) (tk_b (tk_l dX1_follow_3) (tk_b (tk_l dX1_follow_6) (tk_l dX1_follow_7)))) (tk_b (tk_b (tk_l dX1_follow_10) (tk_b (tk_l dX1_follow_11) (tk_l dX1_follow_12))) (tk_b (tk_b (tk_l dX1_follow_13) (tk_l dX1_follow_14)) (tk_b (tk_l dX1_follow_17) (tk_l dX1_follow_18))))) (tk_b (tk_b (tk_b (tk_l dX1_follow_19) (tk_b (tk_l dX1_follow_20) (tk_l dX1_follow_21))) (tk_b (tk_b (tk_l dX1_follow_24) (tk_l dX1_follow_25)) (tk_b (tk_l dX1_follow_28) (tk_l dX1_follow_29)))) (tk_b (tk_b (tk_l dX1_follow_30) (tk_b (tk_l dX1_follow_31) (tk_l dX1_follow_34))) (tk_b (tk_b (tk_l dX1_follow_35) (tk_l dX1_follow_36)) (tk_b (tk_l dX1_follow_37) (tk_l dX1_follow_38))))))
def tbX1_on (pc : Nat) : Option (Instr × Nat) := (cond (Nat.ble pc 5) (cond (Nat.ble pc 1) (cond (Nat.ble pc 0) (cond (Nat.beq pc 0) (some (.aload_n 0, 1)) none) (cond (Nat.beq pc 1) (some (.getfield 10, 3)) none)) (cond (Nat.ble pc 4) (cond (Nat.beq pc 4) (some (.iload_n 1, 1)) none) (cond (Nat.beq pc 5) (some (.iload_n 2, 1)) none))) (cond (Nat.ble pc 9) (cond (Nat.ble pc 6) (cond (Nat.beq pc 6) (some (.invokestatic 160, 3)) none) (cond (Nat.beq pc 9) (some (.invokevirtual 74, 3)) none)) (cond (Nat.ble pc 12) (cond (Nat.beq pc 12) (some (.checkcast 47, 3)) none) (cond (Nat.ble pc 15) (cond (Nat.beq pc 15) (some (.invokevirtual 78, 3)) none) (cond (Nat.beq pc 18) (some (.ireturn, 1)) none)))))
theorem tkX1_on : tkAll cX1_on tbX1_on := fun pc => (tk_b (tk_b (tk_b (tk_l dX1_on_0) (tk_l dX1_on_1)) (tk_b (tk_l dX1_on_4) (tk_l dX1_on_5))) (tk_b (tk_b (tk_l dX1_on_6) (tk_l dX1_on_9)) (tk_b (tk_l dX1_on_12) (tk_b (tk_l dX1_on_15) (tk_l dX1_on_18)))))
def tbX1_at (pc : Nat) : Option (Instr × Nat) := (cond (Nat.ble pc 17) (cond (Nat.ble pc 5) (cond (Nat.ble pc 1) (cond (Nat.ble pc 0) (cond (Nat.beq pc 0) (some (.aload_n 0, 1)) none) (cond (Nat.beq pc 1) (some (.getfield 10, 3)) none)) (cond (Nat.ble pc 4) (cond (Nat.beq pc 4) (some (.iload_n 1, 1)) none) (cond (Nat.beq pc 5) (some (.iload_n 2, 1)) none))) (cond (Nat.ble pc 9) (cond (Nat.ble pc 6) (cond (Nat.beq pc 6) (some (.invokestatic 160, 3)) none) (cond (Nat.beq pc 9) (some (.invokevirtual 74, 3)) none)) (cond (Nat.ble pc 12) (cond (Nat.beq pc 12) (some (.checkcast 47, 3)) none) (cond (Nat.ble pc 15) (cond (Nat.beq pc 15) (some (.astore 4, 2)) none) (cond (Nat.beq pc 17) (some (.iload_n 3, 1)) none))))) (cond (Nat.ble pc 26) (cond (Nat.ble pc 20) (cond (Nat.ble pc 18) (cond (Nat.beq pc 18) (some (.aload 4, 2)) none) (cond (Nat.beq pc 20) (some (.invokevirtual 78, 3)) none)) (cond (Nat.ble pc 23) (cond (Nat.beq pc 23) (some (.invokestatic 147, 3)) none) (cond (Nat.beq pc 26) (some (.aload 4, 2)) none))) (cond (Nat.ble pc 29) (cond (Nat.ble pc 28) (cond (Nat.beq pc 28) (some (.iload_n 3, 1)) none) (cond (Nat.beq pc 29) (some (.invokevirtual 88, 3)) none)) (cond (Nat.ble pc 32) (cond (Nat.beq pc 32) (some (.checkcast 69, 3)) none) (cond (Nat.ble pc 35) (cond (Nat.beq pc 35) (some (.getfield 170, 3)) none) (cond (Nat.beq pc 38) (some (.ireturn, 1)) none))))))
theorem tkX1_at : tkAll cX1_at tbX1_at := fun pc => (tk_b (tk_b (tk_b (tk_b (tk_l dX1_at_0) (tk_l dX1_at_1)) (tk_b (tk_l dX1_at_4) (tk_l dX1_at_5))) (tk_b (tk_b (tk_l dX1_at_6) (tk_l dX1_at_9)) (tk_b (tk_l dX1_at_12) (tk_b (tk_l dX1_at_15) (tk_l dX1_at_17))))) (tk_b (tk_b (tk_b (tk_l dX1_at_18) (tk_l dX1_at_20)) (tk_b (tk_l dX1_at_23) (tk_l dX1_at_26))) (tk_b (tk_b (tk_l dX1_at_28) (tk_l dX1_at_29)) (tk_b (tk_l dX1_at_32) (tk_b (tk_l dX1_at_35) (tk_l dX1_at_38))))))
def tbX1_there (pc : Nat) : Option (Instr × Nat) := (cond (Nat.ble pc 6) (cond (Nat.ble pc 1) (cond (Nat.ble pc 0) (cond (Nat.beq pc 0) (some (.iload_n 0, 1)) none) (cond (Nat.beq pc 1) (some (.ifCond .lt 8, 3)) none)) (cond (Nat.ble pc 4) (cond (Nat.beq pc 4) (some (.iload_n 0, 1)) none) (cond (Nat.ble pc 5) (cond (Nat.beq pc 5) (some (.iload_n 1, 1)) none) (cond (Nat.beq pc 6) (some (.if_icmp .lt 11, 3)) none)))) (cond (Nat.ble pc 12) (cond (Nat.ble pc 9) (cond (Nat.beq pc 9) (some (.new 136, 3)) none) (cond (Nat.beq pc 12) (some (.dup, 1)) none)) (cond (Nat.ble pc 13) (cond (Nat.beq pc 13) (some (.invokespecial 138, 3)) none) (cond (Nat.ble pc 16) (cond (Nat.beq pc 16) (some (.athrow, 1)) none) (cond (Nat.beq pc 17) (some (.return_, 1)) none)))))
theorem tkX1_there : tkAll cX1_there tbX1_there := fun pc => (tk_b (tk_b (tk_b (tk_l dX1_there_0) (tk_l dX1_there_1)) (tk_b (tk_l dX1_there_4) (tk_b (tk_l dX1_there_5) (tk_l dX1_there_6)))) (tk_b (tk_b (tk_l dX1_there_9) (tk_l dX1_there_12)) (tk_b (tk_l dX1_there_13) (tk_b (tk_l dX1_there_16) (tk_l dX1_there_17)))))
def tbX1_atByReplay (pc : Nat) : Option (Instr × Nat) := (cond (Nat.ble pc 18) (cond (Nat.ble pc 7) (cond (Nat.ble pc 1) (cond (Nat.ble pc 0) (cond (Nat.beq pc 0) (some (.iload_n 1, 1)) none) (cond (Nat.beq pc 1) (some (.iload_n 2, 1)) none)) (cond (Nat.ble pc 2) (cond (Nat.beq pc 2) (some (.invokestatic 160, 3)) none) (cond (Nat.ble pc 5) (cond (Nat.beq pc 5) (some (.istore 4, 2)) none) (cond (Nat.beq pc 7) (some (.new 198, 3)) none)))) (cond (Nat.ble pc 12) (cond (Nat.ble pc 10) (cond (Nat.beq pc 10) (some (.dup, 1)) none) (cond (Nat.ble pc 11) (cond (Nat.beq pc 11) (some (.aload_n 0, 1)) none) (cond (Nat.beq pc 12) (some (.invokespecial 200, 3)) none))) (cond (Nat.ble pc 15) (cond (Nat.beq pc 15) (some (.astore 5, 2)) none) (cond (Nat.ble pc 17) (cond (Nat.beq pc 17) (some (.iload_n 3, 1)) none) (cond (Nat.beq pc 18) (some (.aload 5, 2)) none))))) (cond (Nat.ble pc 29) (cond (Nat.ble pc 23) (cond (Nat.ble pc 20) (cond (Nat.beq pc 20) (some (.getfield 203, 3)) none) (cond (Nat.beq pc 23) (some (.iload 4, 2)) none)) (cond (Nat.ble pc 25) (cond (Nat.beq pc 25) (some (.iaload, 1)) none) (cond (Nat.ble pc 26) (cond (Nat.beq pc 26) (some (.invokestatic 147, 3)) none) (cond (Nat.beq pc 29) (some (.aload 5, 2)) none)))) (cond (Nat.ble pc 36) (cond (Nat.ble pc 31) (cond (Nat.beq pc 31) (some (.getfield 206, 3)) none) (cond (Nat.ble pc 34) (cond (Nat.beq pc 34) (some (.iload 4, 2)) none) (cond (Nat.beq pc 36) (some (.aaload, 1)) none))) (cond (Nat.ble pc 37) (cond (Nat.beq pc 37) (some (.iload_n 3, 1)) none) (cond (Nat.ble pc 38) (cond (Nat.beq pc 38) (some (.iaload, 1)) none) (cond (Nat.beq pc 39) (some (.ireturn, 1)) none))))))
theorem tkX1_atByReplay : tkAll cX1_atByReplay tbX1_atByReplay := fun pc => (tk_b (tk_b (tk_b (tk_b (tk_l dX1_atByReplay_0) (tk_l dX1_atByReplay_1)) (tk_b (tk_l dX1_atByReplay_2) (tk_b (tk_l dX1_atByReplay_5) (tk_l dX1_atByReplay_7)))) (tk_b (tk_b (tk_l dX1_atByReplay_10) (tk_b (tk_l dX1_atByReplay_11) (tk_l dX1_atByReplay_12))) (tk_b (tk_l dX1_atByReplay_15) (tk_b (tk_l dX1_atByReplay_17) (tk_l dX1_atByReplay_18))))) (tk_b (tk_b (tk_b (tk_l dX1_atByReplay_20) (tk_l dX1_atByReplay_23)) (tk_b (tk_l dX1_atByReplay_25) (tk_b (tk_l dX1_atByReplay_26) (tk_l dX1_atByReplay_29)))) (tk_b (tk_b (tk_l dX1_atByReplay_31) (tk_b (tk_l dX1_atByReplay_34) (tk_l dX1_atByReplay_36))) (tk_b (tk_l dX1_atByReplay_37) (tk_b (tk_l dX1_atByReplay_38) (tk_l dX1_atByReplay_39))))))
def tbX1_where (pc : Nat) : Option (Instr × Nat) := (cond (Nat.ble pc 18) (cond (Nat.ble pc 6) (cond (Nat.ble pc 1) (cond (Nat.ble pc 0) (cond (Nat.beq pc 0) (some (.aload_n 0, 1)) none) (cond (Nat.beq pc 1) (some (.iload_n 1, 1)) none)) (cond (Nat.ble pc 2) (cond (Nat.beq pc 2) (some (.invokevirtual 210, 3)) none) (cond (Nat.ble pc 5) (cond (Nat.beq pc 5) (some (.astore_n 2, 1)) none) (cond (Nat.beq pc 6) (some (.aload_n 2, 1)) none)))) (cond (Nat.ble pc 11) (cond (Nat.ble pc 7) (cond (Nat.beq pc 7) (some (.getfield 185, 3)) none) (cond (Nat.ble pc 10) (cond (Nat.beq pc 10) (some (.iconst (-1), 1)) none) (cond (Nat.beq pc 11) (some (.if_icmp .ne 7, 3)) none))) (cond (Nat.ble pc 14) (cond (Nat.beq pc 14) (some (.iconst (-1), 1)) none) (cond (Nat.ble pc 15) (cond (Nat.beq pc 15) (some (.goto 19, 3)) none) (cond (Nat.beq pc 18) (some (.bipush 10, 2)) none))))) (cond (Nat.ble pc 26) (cond (Nat.ble pc 21) (cond (Nat.ble pc 20) (cond (Nat.beq pc 20) (some (.aload_n 2, 1)) none) (cond (Nat.beq pc 21) (some (.getfield 185, 3)) none)) (cond (Nat.ble pc 24) (cond (Nat.beq pc 24) (some (.iconst 5, 1)) none) (cond (Nat.ble pc 25) (cond (Nat.beq pc 25) (some (.idiv, 1)) none) (cond (Nat.beq pc 26) (some (.imul, 1)) none)))) (cond (Nat.ble pc 31) (cond (Nat.ble pc 27) (cond (Nat.beq pc 27) (some (.aload_n 2, 1)) none) (cond (Nat.ble pc 28) (cond (Nat.beq pc 28) (some (.getfield 185, 3)) none) (cond (Nat.beq pc 31) (some (.iconst 5, 1)) none))) (cond (Nat.ble pc 32) (cond (Nat.beq pc 32) (some (.irem, 1)) none) (cond (Nat.ble pc 33) (cond (Nat.beq pc 33) (some (.iadd, 1)) none) (cond (Nat.beq pc 34) (some (.ireturn, 1)) none))))))
theorem tkX1_where : tkAll cX1_where tbX1_where := fun pc => (tk_b (tk_b (tk_b (tk_b (tk_l dX1_where_0) (tk_l dX1_where_1)) (tk_b (tk_l dX1_where_2) (tk_b (tk_l dX1_where_5) (tk_l dX1_where_6)))) (tk_b (tk_b (tk_l dX1_where_7) (tk_b (tk_l dX1_where_10) (tk_l dX1_where_11))) (tk_b (tk_l dX1_where_14) (tk_b (tk_l dX1_where_15) (tk_l dX1_where_18))))) (tk_b (tk_b (tk_b (tk_l dX1_where_20) (tk_l dX1_where_21)) (tk_b (tk_l dX1_where_24) (tk_b (tk_l dX1_where_25) (tk_l dX1_where_26)))) (tk_b (tk_b (tk_l dX1_where_27) (tk_b (tk_l dX1_where_28) (tk_l dX1_where_31))) (tk_b (tk_l dX1_where_32) (tk_b (tk_l dX1_where_33) (tk_l dX1_where_34))))))
def tbX1_wagonAt (pc : Nat) : Option (Instr × Nat) := (cond (Nat.ble pc 8) (cond (Nat.ble pc 1) (cond (Nat.ble pc 0) (cond (Nat.beq pc 0) (some (.iload_n 1, 1)) none) (cond (Nat.beq pc 1) (some (.aload_n 0, 1)) none)) (cond (Nat.ble pc 2) (cond (Nat.beq pc 2) (some (.getfield 16, 3)) none) (cond (Nat.ble pc 5) (cond (Nat.beq pc 5) (some (.invokevirtual 146, 3)) none) (cond (Nat.beq pc 8) (some (.invokestatic 147, 3)) none)))) (cond (Nat.ble pc 15) (cond (Nat.ble pc 11) (cond (Nat.beq pc 11) (some (.aload_n 0, 1)) none) (cond (Nat.ble pc 12) (cond (Nat.beq pc 12) (some (.getfield 16, 3)) none) (cond (Nat.beq pc 15) (some (.iload_n 1, 1)) none))) (cond (Nat.ble pc 16) (cond (Nat.beq pc 16) (some (.invokevirtual 74, 3)) none) (cond (Nat.ble pc 19) (cond (Nat.beq pc 19) (some (.checkcast 69, 3)) none) (cond (Nat.beq pc 22) (some (.areturn, 1)) none)))))
theorem tkX1_wagonAt : tkAll cX1_wagonAt tbX1_wagonAt := fun pc => (tk_b (tk_b (tk_b (tk_l dX1_wagonAt_0) (tk_l dX1_wagonAt_1)) (tk_b (tk_l dX1_wagonAt_2) (tk_b (tk_l dX1_wagonAt_5) (tk_l dX1_wagonAt_8)))) (tk_b (tk_b (tk_l dX1_wagonAt_11) (tk_b (tk_l dX1_wagonAt_12) (tk_l dX1_wagonAt_15))) (tk_b (tk_l dX1_wagonAt_16) (tk_b (tk_l dX1_wagonAt_19) (tk_l dX1_wagonAt_22)))))
def tbX1_carried (pc : Nat) : Option (Instr × Nat) := (cond (Nat.ble pc 1) (cond (Nat.ble pc 0) (cond (Nat.beq pc 0) (some (.aload_n 0, 1)) none) (cond (Nat.beq pc 1) (some (.iload_n 1, 1)) none)) (cond (Nat.ble pc 2) (cond (Nat.beq pc 2) (some (.invokevirtual 210, 3)) none) (cond (Nat.ble pc 5) (cond (Nat.beq pc 5) (some (.getfield 68, 3)) none) (cond (Nat.beq pc 8) (some (.ireturn, 1)) none))))
theorem tkX1_carried : tkAll cX1_carried tbX1_carried := fun pc => (tk_b (tk_b (tk_l dX1_carried_0) (tk_l dX1_carried_1)) (tk_b (tk_l dX1_carried_2) (tk_b (tk_l dX1_carried_5) (tk_l dX1_carried_8))))
def tbX1_promised (pc : Nat) : Option (Instr × Nat) := (cond (Nat.ble pc 7) (cond (Nat.ble pc 2) (cond (Nat.ble pc 0) (cond (Nat.beq pc 0) (some (.aload_n 0, 1)) none) (cond (Nat.ble pc 1) (cond (Nat.beq pc 1) (some (.iload_n 1, 1)) none) (cond (Nat.beq pc 2) (some (.invokevirtual 210, 3)) none))) (cond (Nat.ble pc 5) (cond (Nat.beq pc 5) (some (.astore_n 2, 1)) none) (cond (Nat.ble pc 6) (cond (Nat.beq pc 6) (some (.aload_n 2, 1)) none) (cond (Nat.beq pc 7) (some (.getfield 89, 3)) none)))) (cond (Nat.ble pc 14) (cond (Nat.ble pc 10) (cond (Nat.beq pc 10) (some (.ifnonnull 7, 3)) none) (cond (Nat.ble pc 13) (cond (Nat.beq pc 13) (some (.iconst (-1), 1)) none) (cond (Nat.beq pc 14) (some (.goto 10, 3)) none))) (cond (Nat.ble pc 18) (cond (Nat.ble pc 17) (cond (Nat.beq pc 17) (some (.aload_n 2, 1)) none) (cond (Nat.beq pc 18) (some (.getfield 89, 3)) none)) (cond (Nat.ble pc 21) (cond (Nat.beq pc 21) (some (.getfield 214, 3)) none) (cond (Nat.beq pc 24) (some (.ireturn, 1)) none)))))
theorem tkX1_promised : tkAll cX1_promised tbX1_promised := fun pc => (tk_b (tk_b (tk_b (tk_l dX1_promised_0) (tk_b (tk_l dX1_promised_1) (tk_l dX1_promised_2))) (tk_b (tk_l dX1_promised_5) (tk_b (tk_l dX1_promised_6) (tk_l dX1_promised_7)))) (tk_b (tk_b (tk_l dX1_promised_10) (tk_b (tk_l dX1_promised_13) (tk_l dX1_promised_14))) (tk_b (tk_b (tk_l dX1_promised_17) (tk_l dX1_promised_18)) (tk_b (tk_l dX1_promised_21) (tk_l dX1_promised_24)))))
def tbX1_call (pc : Nat) : Option (Instr × Nat) := (cond (Nat.ble pc 59) (cond (Nat.ble pc 28) (cond (Nat.ble pc 9) (cond (Nat.ble pc 3) (cond (Nat.ble pc 1) (cond (Nat.ble pc 0) (cond (Nat.beq pc 0) (some (.iload_n 1, 1)) none) (cond (Nat.beq pc 1) (some (.iconst 0, 1)) none)) (cond (Nat.ble pc 2) (cond (Nat.beq pc 2) (some (.iconst 5, 1)) none) (cond (Nat.beq pc 3) (some (.invokestatic 139, 3)) none))) (cond (Nat.ble pc 7) (cond (Nat.ble pc 6) (cond (Nat.beq pc 6) (some (.iload_n 2, 1)) none) (cond (Nat.beq pc 7) (some (.iconst 0, 1)) none)) (cond (Nat.ble pc 8) (cond (Nat.beq pc 8) (some (.iconst 2, 1)) none) (cond (Nat.beq pc 9) (some (.invokestatic 139, 3)) none)))) (cond (Nat.ble pc 17) (cond (Nat.ble pc 13) (cond (Nat.ble pc 12) (cond (Nat.beq pc 12) (some (.aload_n 0, 1)) none) (cond (Nat.beq pc 13) (some (.iload_n 1, 1)) none)) (cond (Nat.ble pc 14) (cond (Nat.beq pc 14) (some (.invokevirtual 219, 3)) none) (cond (Nat.beq pc 17) (some (.iconst (-1), 1)) none))) (cond (Nat.ble pc 21) (cond (Nat.ble pc 18) (cond (Nat.beq pc 18) (some (.if_icmp .ne 19, 3)) none) (cond (Nat.beq pc 21) (some (.aload_n 0, 1)) none)) (cond (Nat.ble pc 22) (cond (Nat.beq pc 22) (some (.getfield 35, 3)) none) (cond (Nat.ble pc 25) (cond (Nat.beq pc 25) (some (.invokevirtual 146, 3)) none) (cond (Nat.beq pc 28) (some (.bipush 60, 2)) none)))))) (cond (Nat.ble pc 46) (cond (Nat.ble pc 37) (cond (Nat.ble pc 33) (cond (Nat.ble pc 30) (cond (Nat.beq pc 30) (some (.if_icmp .ge 7, 3)) none) (cond (Nat.beq pc 33) (some (.iconst 1, 1)) none)) (cond (Nat.ble pc 34) (cond (Nat.beq pc 34) (some (.goto 4, 3)) none) (cond (Nat.beq pc 37) (some (.iconst 0, 1)) none))) (cond (Nat.ble pc 41) (cond (Nat.ble pc 38) (cond (Nat.beq pc 38) (some (.invokestatic 154, 3)) none) (cond (Nat.beq pc 41) (some (.aload_n 0, 1)) none)) (cond (Nat.ble pc 42) (cond (Nat.beq pc 42) (some (.iload_n 2, 1)) none) (cond (Nat.ble pc 43) (cond (Nat.beq pc 43) (some (.invokevirtual 223, 3)) none) (cond (Nat.beq pc 46) (some (.aload_n 0, 1)) none))))) (cond (Nat.ble pc 52) (cond (Nat.ble pc 50) (cond (Nat.ble pc 47) (cond (Nat.beq pc 47) (some (.getfield 31, 3)) none) (cond (Nat.beq pc 50) (some (.iload_n 2, 1)) none)) (cond (Nat.ble pc 51) (cond (Nat.beq pc 51) (some (.iaload, 1)) none) (cond (Nat.beq pc 52) (some (.if_icmp .ge 21, 3)) none))) (cond (Nat.ble pc 56) (cond (Nat.ble pc 55) (cond (Nat.beq pc 55) (some (.aload_n 0, 1)) none) (cond (Nat.beq pc 56) (some (.iload_n 1, 1)) none)) (cond (Nat.ble pc 57) (cond (Nat.beq pc 57) (some (.iconst 3, 1)) none) (cond (Nat.ble pc 58) (cond (Nat.beq pc 58) (some (.irem, 1)) none) (cond (Nat.beq pc 59) (some (.iload_n 2, 1)) none))))))) (cond (Nat.ble pc 91) (cond (Nat.ble pc 76) (cond (Nat.ble pc 67) (cond (Nat.ble pc 63) (cond (Nat.ble pc 60) (cond (Nat.beq pc 60) (some (.new 7, 3)) none) (cond (Nat.beq pc 63) (some (.dup, 1)) none)) (cond (Nat.ble pc 64) (cond (Nat.beq pc 64) (some (.invokespecial 9, 3)) none) (cond (Nat.beq pc 67) (some (.invokevirtual 226, 3)) none))) (cond (Nat.ble pc 73) (cond (Nat.ble pc 70) (cond (Nat.beq pc 70) (some (.goto 4, 3)) none) (cond (Nat.beq pc 73) (some (.aconst_null, 1)) none)) (cond (Nat.ble pc 74) (cond (Nat.beq pc 74) (some (.astore_n 3, 1)) none) (cond (Nat.ble pc 75) (cond (Nat.beq pc 75) (some (.aload_n 3, 1)) none) (cond (Nat.beq pc 76) (some (.ifnonnull 15, 3)) none))))) (cond (Nat.ble pc 84) (cond (Nat.ble pc 80) (cond (Nat.ble pc 79) (cond (Nat.beq pc 79) (some (.aload_n 0, 1)) none) (cond (Nat.beq pc 80) (some (.dup, 1)) none)) (cond (Nat.ble pc 81) (cond (Nat.beq pc 81) (some (.getfield 230, 3)) none) (cond (Nat.beq pc 84) (some (.iconst 1, 1)) none))) (cond (Nat.ble pc 86) (cond (Nat.ble pc 85) (cond (Nat.beq pc 85) (some (.iadd, 1)) none) (cond (Nat.beq pc 86) (some (.putfield 230, 3)) none)) (cond (Nat.ble pc 89) (cond (Nat.beq pc 89) (some (.iconst (-1), 1)) none) (cond (Nat.ble pc 90) (cond (Nat.beq pc 90) (some (.ireturn, 1)) none) (cond (Nat.beq pc 91) (some (.aload_n 0, 1)) none)))))) (cond (Nat.ble pc 108) (cond (Nat.ble pc 99) (cond (Nat.ble pc 95) (cond (Nat.ble pc 92) (cond (Nat.beq pc 92) (some (.getfield 35, 3)) none) (cond (Nat.beq pc 95) (some (.new 121, 3)) none)) (cond (Nat.ble pc 98) (cond (Nat.beq pc 98) (some (.dup, 1)) none) (cond (Nat.beq pc 99) (some (.aload_n 0, 1)) none))) (cond (Nat.ble pc 103) (cond (Nat.ble pc 100) (cond (Nat.beq pc 100) (some (.getfield 35, 3)) none) (cond (Nat.beq pc 103) (some (.invokevirtual 146, 3)) none)) (cond (Nat.ble pc 106) (cond (Nat.beq pc 106) (some (.iload_n 1, 1)) none) (cond (Nat.ble pc 107) (cond (Nat.beq pc 107) (some (.iload_n 2, 1)) none) (cond (Nat.beq pc 108) (some (.aload_n 3, 1)) none))))) (cond (Nat.ble pc 116) (cond (Nat.ble pc 112) (cond (Nat.ble pc 109) (cond (Nat.beq pc 109) (some (.invokespecial 233, 3)) none) (cond (Nat.beq pc 112) (some (.invokevirtual 50, 3)) none)) (cond (Nat.ble pc 115) (cond (Nat.beq pc 115) (some (.pop, 1)) none) (cond (Nat.beq pc 116) (some (.aload_n 0, 1)) none))) (cond (Nat.ble pc 120) (cond (Nat.ble pc 117) (cond (Nat.beq pc 117) (some (.getfield 35, 3)) none) (cond (Nat.beq pc 120) (some (.invokevirtual 146, 3)) none)) (cond (Nat.ble pc 123) (cond (Nat.beq pc 123) (some (.iconst 1, 1)) none) (cond (Nat.ble pc 124) (cond (Nat.beq pc 124) (some (.isub, 1)) none) (cond (Nat.beq pc 125) (some (.ireturn, 1)) none))))))))
theorem tkX1_call : tkAll cX1_call tbX1_call := fun pc => (tk_b (tk_b (tk_b (tk_b (tk_b (tk_b (tk_l dX1_call_0) (tk_l dX1_call_1)) (tk_b (tk_l dX1_call_2) (tk_l dX1_call_3))) (tk_b (tk_b (tk_l dX1_call_6) (tk_l dX1_call_7)) (tk_b (tk_l dX1_call_8) (tk_l dX1_call_9)))) (tk_b (tk_b (tk_b (tk_l dX1_call_12) (tk_l dX1_call_13)) (tk_b (tk_l dX1_call_14) (tk_l dX1_call_17))) (tk_b (tk_b (tk_l dX1_call_18) (tk_l dX1_call_21)) (tk_b (tk_l dX1_call_22) (tk_b (tk_l dX1_call_25) (tk_l dX1_call_28)))))) (tk_b (tk_b (tk_b (tk_b (tk_l dX1_call_30) (tk_l dX1_call_33)) (tk_b (tk_l dX1_call_34) (tk_l dX1_call_37))) (tk_b (tk_b (tk_l dX1_call_38) (tk_l dX1_call_41)) (tk_b (tk_l dX1_call_42) (tk_b (tk_l dX1_call_43) (tk_l dX1_call_46))))) (tk_b (tk_b (tk_b (tk_l dX1_call_47) (tk_l dX1_call_50)) (tk_b (tk_l dX1_call_51) (tk_l dX1_call_52))) (tk_b (tk_b (tk_l dX1_call_55) (tk_l dX1_call_56)) (tk_b (tk_l dX1_call_57) (tk_b (tk_l dX1_call_58) (tk_l dX1_call_59))))))) (tk_b (tk_b (tk_b (tk_b (tk_b (tk_l dX1_call_60) (tk_l dX1_call_63)) (tk_b (tk_l dX1_call_64) (tk_l dX1_call_67))) (tk_b (tk_b (tk_l dX1_call_70) (tk_l dX1_call_73)) (tk_b (tk_l dX1_call_74) (tk_b (tk_l dX1_call_75) (tk_l dX1_call_76))))) (tk_b (tk_b (tk_b (tk_l dX1_call_79) (tk_l dX1_call_80)) (tk_b (tk_l dX1_call_81) (tk_l dX1_call_84))) (tk_b (tk_b (tk_l dX1_call_85) (tk_l dX1_call_86)) (tk_b (tk_l dX1_call_89) (tk_b (tk_l dX1_call_90) (tk_l dX1_call_91)))))) (tk_b (tk_b (tk_b (tk_b (tk_l dX1_call_92) (tk_l dX1_call_95)) (tk_b (tk_l dX1_call_98) (tk_l dX1_call_99))) (tk_b (tk_b (tk_l dX1_call_100) (tk_l dX1_call_103)) (tk_b (tk_l dX1_call_106) (tk_b (tk_l dX1_call_107) (tk_l dX1_call_108))))) (tk_b (tk_b (tk_b (tk_l dX1_call_109) (tk_l dX1_call_112)) (tk_b (tk_l dX1_call_115) (tk_l dX1_call_116))) (tk_b (tk_b (tk_l dX1_call_117) (tk_l dX1_call_120)) (tk_b (tk_l dX1_call_123) (tk_b (tk_l dX1_call_124) (tk_l dX1_call_125))))))))
def tbX1_callNow (pc : Nat) : Option (Instr × Nat) := (cond (Nat.ble pc 27) (cond (Nat.ble pc 9) (cond (Nat.ble pc 4) (cond (Nat.ble pc 0) (cond (Nat.beq pc 0) (some (.aload_n 0, 1)) none) (cond (Nat.ble pc 1) (cond (Nat.beq pc 1) (some (.getfield 35, 3)) none) (cond (Nat.beq pc 4) (some (.invokevirtual 108, 3)) none))) (cond (Nat.ble pc 7) (cond (Nat.beq pc 7) (some (.astore_n 2, 1)) none) (cond (Nat.ble pc 8) (cond (Nat.beq pc 8) (some (.aload_n 2, 1)) none) (cond (Nat.beq pc 9) (some (.invokeinterface 112 1, 5)) none)))) (cond (Nat.ble pc 18) (cond (Nat.ble pc 14) (cond (Nat.beq pc 14) (some (.ifCond .eq 36, 3)) none) (cond (Nat.ble pc 17) (cond (Nat.beq pc 17) (some (.aload_n 2, 1)) none) (cond (Nat.beq pc 18) (some (.invokeinterface 117 1, 5)) none))) (cond (Nat.ble pc 23) (cond (Nat.beq pc 23) (some (.checkcast 121, 3)) none) (cond (Nat.ble pc 26) (cond (Nat.beq pc 26) (some (.astore_n 3, 1)) none) (cond (Nat.beq pc 27) (some (.aload_n 3, 1)) none))))) (cond (Nat.ble pc 39) (cond (Nat.ble pc 34) (cond (Nat.ble pc 28) (cond (Nat.beq pc 28) (some (.getfield 123, 3)) none) (cond (Nat.ble pc 31) (cond (Nat.beq pc 31) (some (.ifCond .eq 16, 3)) none) (cond (Nat.beq pc 34) (some (.aload_n 3, 1)) none))) (cond (Nat.ble pc 35) (cond (Nat.beq pc 35) (some (.getfield 215, 3)) none) (cond (Nat.ble pc 38) (cond (Nat.beq pc 38) (some (.iload_n 1, 1)) none) (cond (Nat.beq pc 39) (some (.if_icmp .ne 8, 3)) none)))) (cond (Nat.ble pc 46) (cond (Nat.ble pc 42) (cond (Nat.beq pc 42) (some (.aload_n 3, 1)) none) (cond (Nat.ble pc 43) (cond (Nat.beq pc 43) (some (.getfield 218, 3)) none) (cond (Nat.beq pc 46) (some (.ireturn, 1)) none))) (cond (Nat.ble pc 47) (cond (Nat.beq pc 47) (some (.goto (-39), 3)) none) (cond (Nat.ble pc 50) (cond (Nat.beq pc 50) (some (.iconst (-1), 1)) none) (cond (Nat.beq pc 51) (some (.ireturn, 1)) none))))))
theorem tkX1_callNow : tkAll cX1_callNow tbX1_callNow := fun pc => (tk_b (tk_b (tk_b (tk_b (tk_l dX1_callNow_0) (tk_b (tk_l dX1_callNow_1) (tk_l dX1_callNow_4))) (tk_b (tk_l dX1_callNow_7) (tk_b (tk_l dX1_callNow_8) (tk_l dX1_callNow_9)))) (tk_b (tk_b (tk_l dX1_callNow_14) (tk_b (tk_l dX1_callNow_17) (tk_l dX1_callNow_18))) (tk_b (tk_l dX1_callNow_23) (tk_b (tk_l dX1_callNow_26) (tk_l dX1_callNow_27))))) (tk_b (tk_b (tk_b (tk_l dX1_callNow_28) (tk_b (tk_l dX1_callNow_31) (tk_l dX1_callNow_34))) (tk_b (tk_l dX1_callNow_35) (tk_b (tk_l dX1_callNow_38) (tk_l dX1_callNow_39)))) (tk_b (tk_b (tk_l dX1_callNow_42) (tk_b (tk_l dX1_callNow_43) (tk_l dX1_callNow_46))) (tk_b (tk_l dX1_callNow_47) (tk_b (tk_l dX1_callNow_50) (tk_l dX1_callNow_51))))))
def tbX1_inUse (pc : Nat) : Option (Instr × Nat) := (cond (Nat.ble pc 30) (cond (Nat.ble pc 10) (cond (Nat.ble pc 2) (cond (Nat.ble pc 0) (cond (Nat.beq pc 0) (some (.iconst 0, 1)) none) (cond (Nat.ble pc 1) (cond (Nat.beq pc 1) (some (.istore_n 2, 1)) none) (cond (Nat.beq pc 2) (some (.aload_n 0, 1)) none))) (cond (Nat.ble pc 6) (cond (Nat.ble pc 3) (cond (Nat.beq pc 3) (some (.getfield 35, 3)) none) (cond (Nat.beq pc 6) (some (.invokevirtual 108, 3)) none)) (cond (Nat.ble pc 9) (cond (Nat.beq pc 9) (some (.astore_n 3, 1)) none) (cond (Nat.beq pc 10) (some (.aload_n 3, 1)) none)))) (cond (Nat.ble pc 19) (cond (Nat.ble pc 11) (cond (Nat.beq pc 11) (some (.invokeinterface 112 1, 5)) none) (cond (Nat.ble pc 16) (cond (Nat.beq pc 16) (some (.ifCond .eq 42, 3)) none) (cond (Nat.beq pc 19) (some (.aload_n 3, 1)) none))) (cond (Nat.ble pc 25) (cond (Nat.ble pc 20) (cond (Nat.beq pc 20) (some (.invokeinterface 117 1, 5)) none) (cond (Nat.beq pc 25) (some (.checkcast 121, 3)) none)) (cond (Nat.ble pc 28) (cond (Nat.beq pc 28) (some (.astore 4, 2)) none) (cond (Nat.beq pc 30) (some (.iload_n 2, 1)) none))))) (cond (Nat.ble pc 45) (cond (Nat.ble pc 36) (cond (Nat.ble pc 31) (cond (Nat.beq pc 31) (some (.aload 4, 2)) none) (cond (Nat.ble pc 33) (cond (Nat.beq pc 33) (some (.getfield 123, 3)) none) (cond (Nat.beq pc 36) (some (.ifCond .eq 16, 3)) none))) (cond (Nat.ble pc 41) (cond (Nat.ble pc 39) (cond (Nat.beq pc 39) (some (.aload 4, 2)) none) (cond (Nat.beq pc 41) (some (.getfield 127, 3)) none)) (cond (Nat.ble pc 44) (cond (Nat.beq pc 44) (some (.iload_n 1, 1)) none) (cond (Nat.beq pc 45) (some (.if_icmp .ne 7, 3)) none)))) (cond (Nat.ble pc 53) (cond (Nat.ble pc 49) (cond (Nat.ble pc 48) (cond (Nat.beq pc 48) (some (.iconst 1, 1)) none) (cond (Nat.beq pc 49) (some (.goto 4, 3)) none)) (cond (Nat.ble pc 52) (cond (Nat.beq pc 52) (some (.iconst 0, 1)) none) (cond (Nat.beq pc 53) (some (.iadd, 1)) none))) (cond (Nat.ble pc 55) (cond (Nat.ble pc 54) (cond (Nat.beq pc 54) (some (.istore_n 2, 1)) none) (cond (Nat.beq pc 55) (some (.goto (-45), 3)) none)) (cond (Nat.ble pc 58) (cond (Nat.beq pc 58) (some (.iload_n 2, 1)) none) (cond (Nat.beq pc 59) (some (.ireturn, 1)) none))))))
theorem tkX1_inUse : tkAll cX1_inUse tbX1_inUse := fun pc => (tk_b (tk_b (tk_b (tk_b (tk_l dX1_inUse_0) (tk_b (tk_l dX1_inUse_1) (tk_l dX1_inUse_2))) (tk_b (tk_b (tk_l dX1_inUse_3) (tk_l dX1_inUse_6)) (tk_b (tk_l dX1_inUse_9) (tk_l dX1_inUse_10)))) (tk_b (tk_b (tk_l dX1_inUse_11) (tk_b (tk_l dX1_inUse_16) (tk_l dX1_inUse_19))) (tk_b (tk_b (tk_l dX1_inUse_20) (tk_l dX1_inUse_25)) (tk_b (tk_l dX1_inUse_28) (tk_l dX1_inUse_30))))) (tk_b (tk_b (tk_b (tk_l dX1_inUse_31) (tk_b (tk_l dX1_inUse_33) (tk_l dX1_inUse_36))) (tk_b (tk_b (tk_l dX1_inUse_39) (tk_l dX1_inUse_41)) (tk_b (tk_l dX1_inUse_44) (tk_l dX1_inUse_45)))) (tk_b (tk_b (tk_b (tk_l dX1_inUse_48) (tk_l dX1_inUse_49)) (tk_b (tk_l dX1_inUse_52) (tk_l dX1_inUse_53))) (tk_b (tk_b (tk_l dX1_inUse_54) (tk_l dX1_inUse_55)) (tk_b (tk_l dX1_inUse_58) (tk_l dX1_inUse_59))))))
def tbX1_found (pc : Nat) : Option (Instr × Nat) := (cond (Nat.ble pc 41) (cond (Nat.ble pc 17) (cond (Nat.ble pc 7) (cond (Nat.ble pc 2) (cond (Nat.ble pc 0) (cond (Nat.beq pc 0) (some (.iload_n 1, 1)) none) (cond (Nat.ble pc 1) (cond (Nat.beq pc 1) (some (.iload_n 2, 1)) none) (cond (Nat.beq pc 2) (some (.if_icmp .ne 5, 3)) none))) (cond (Nat.ble pc 5) (cond (Nat.beq pc 5) (some (.aload_n 3, 1)) none) (cond (Nat.ble pc 6) (cond (Nat.beq pc 6) (some (.areturn, 1)) none) (cond (Nat.beq pc 7) (some (.aload_n 0, 1)) none)))) (cond (Nat.ble pc 10) (cond (Nat.ble pc 8) (cond (Nat.beq pc 8) (some (.iload_n 1, 1)) none) (cond (Nat.ble pc 9) (cond (Nat.beq pc 9) (some (.iload_n 2, 1)) none) (cond (Nat.beq pc 10) (some (.invokevirtual 104, 3)) none))) (cond (Nat.ble pc 15) (cond (Nat.ble pc 13) (cond (Nat.beq pc 13) (some (.astore 4, 2)) none) (cond (Nat.beq pc 15) (some (.iconst 3, 1)) none)) (cond (Nat.ble pc 16) (cond (Nat.beq pc 16) (some (.iload_n 1, 1)) none) (cond (Nat.beq pc 17) (some (.isub, 1)) none))))) (cond (Nat.ble pc 27) (cond (Nat.ble pc 20) (cond (Nat.ble pc 18) (cond (Nat.beq pc 18) (some (.iload_n 2, 1)) none) (cond (Nat.ble pc 19) (cond (Nat.beq pc 19) (some (.isub, 1)) none) (cond (Nat.beq pc 20) (some (.istore 5, 2)) none))) (cond (Nat.ble pc 22) (cond (Nat.beq pc 22) (some (.aload 4, 2)) none) (cond (Nat.ble pc 24) (cond (Nat.beq pc 24) (some (.ifnonnull 13, 3)) none) (cond (Nat.beq pc 27) (some (.aload_n 0, 1)) none)))) (cond (Nat.ble pc 31) (cond (Nat.ble pc 28) (cond (Nat.beq pc 28) (some (.iload_n 1, 1)) none) (cond (Nat.ble pc 29) (cond (Nat.beq pc 29) (some (.iload 5, 2)) none) (cond (Nat.beq pc 31) (some (.invokevirtual 104, 3)) none))) (cond (Nat.ble pc 37) (cond (Nat.ble pc 34) (cond (Nat.beq pc 34) (some (.goto 5, 3)) none) (cond (Nat.beq pc 37) (some (.aload 4, 2)) none)) (cond (Nat.ble pc 39) (cond (Nat.beq pc 39) (some (.astore 6, 2)) none) (cond (Nat.beq pc 41) (some (.aload 4, 2)) none)))))) (cond (Nat.ble pc 70) (cond (Nat.ble pc 53) (cond (Nat.ble pc 47) (cond (Nat.ble pc 43) (cond (Nat.beq pc 43) (some (.ifnonnull 13, 3)) none) (cond (Nat.ble pc 46) (cond (Nat.beq pc 46) (some (.aload_n 0, 1)) none) (cond (Nat.beq pc 47) (some (.iload 5, 2)) none))) (cond (Nat.ble pc 49) (cond (Nat.beq pc 49) (some (.iload_n 2, 1)) none) (cond (Nat.ble pc 50) (cond (Nat.beq pc 50) (some (.invokevirtual 104, 3)) none) (cond (Nat.beq pc 53) (some (.goto 5, 3)) none)))) (cond (Nat.ble pc 60) (cond (Nat.ble pc 56) (cond (Nat.beq pc 56) (some (.aload 4, 2)) none) (cond (Nat.ble pc 58) (cond (Nat.beq pc 58) (some (.astore 7, 2)) none) (cond (Nat.beq pc 60) (some (.aload 6, 2)) none))) (cond (Nat.ble pc 65) (cond (Nat.ble pc 62) (cond (Nat.beq pc 62) (some (.ifnull 8, 3)) none) (cond (Nat.beq pc 65) (some (.aload 7, 2)) none)) (cond (Nat.ble pc 67) (cond (Nat.beq pc 67) (some (.ifnonnull 5, 3)) none) (cond (Nat.beq pc 70) (some (.aconst_null, 1)) none))))) (cond (Nat.ble pc 81) (cond (Nat.ble pc 73) (cond (Nat.ble pc 71) (cond (Nat.beq pc 71) (some (.areturn, 1)) none) (cond (Nat.ble pc 72) (cond (Nat.beq pc 72) (some (.aload_n 3, 1)) none) (cond (Nat.beq pc 73) (some (.aload 6, 2)) none))) (cond (Nat.ble pc 78) (cond (Nat.ble pc 75) (cond (Nat.beq pc 75) (some (.invokevirtual 50, 3)) none) (cond (Nat.beq pc 78) (some (.pop, 1)) none)) (cond (Nat.ble pc 79) (cond (Nat.beq pc 79) (some (.aload 7, 2)) none) (cond (Nat.beq pc 81) (some (.aload 6, 2)) none)))) (cond (Nat.ble pc 87) (cond (Nat.ble pc 83) (cond (Nat.beq pc 83) (some (.if_acmp .eq 10, 3)) none) (cond (Nat.ble pc 86) (cond (Nat.beq pc 86) (some (.aload_n 3, 1)) none) (cond (Nat.beq pc 87) (some (.aload 7, 2)) none))) (cond (Nat.ble pc 92) (cond (Nat.ble pc 89) (cond (Nat.beq pc 89) (some (.invokevirtual 50, 3)) none) (cond (Nat.beq pc 92) (some (.pop, 1)) none)) (cond (Nat.ble pc 93) (cond (Nat.beq pc 93) (some (.aload_n 3, 1)) none) (cond (Nat.beq pc 94) (some (.areturn, 1)) none)))))))
theorem tkX1_found : tkAll cX1_found tbX1_found := fun pc => (tk_b (tk_b (tk_b (tk_b (tk_b (tk_l dX1_found_0) (tk_b (tk_l dX1_found_1) (tk_l dX1_found_2))) (tk_b (tk_l dX1_found_5) (tk_b (tk_l dX1_found_6) (tk_l dX1_found_7)))) (tk_b (tk_b (tk_l dX1_found_8) (tk_b (tk_l dX1_found_9) (tk_l dX1_found_10))) (tk_b (tk_b (tk_l dX1_found_13) (tk_l dX1_found_15)) (tk_b (tk_l dX1_found_16) (tk_l dX1_found_17))))) (tk_b (tk_b (tk_b (tk_l dX1_found_18) (tk_b (tk_l dX1_found_19) (tk_l dX1_found_20))) (tk_b (tk_l dX1_found_22) (tk_b (tk_l dX1_found_24) (tk_l dX1_found_27)))) (tk_b (tk_b (tk_l dX1_found_28) (tk_b (tk_l dX1_found_29) (tk_l dX1_found_31))) (tk_b (tk_b (tk_l dX1_found_34) (tk_l dX1_found_37)) (tk_b (tk_l dX1_found_39) (tk_l dX1_found_41)))))) (tk_b (tk_b (tk_b (tk_b (tk_l dX1_found_43) (tk_b (tk_l dX1_found_46) (tk_l dX1_found_47))) (tk_b (tk_l dX1_found_49) (tk_b (tk_l dX1_found_50) (tk_l dX1_found_53)))) (tk_b (tk_b (tk_l dX1_found_56) (tk_b (tk_l dX1_found_58) (tk_l dX1_found_60))) (tk_b (tk_b (tk_l dX1_found_62) (tk_l dX1_found_65)) (tk_b (tk_l dX1_found_67) (tk_l dX1_found_70))))) (tk_b (tk_b (tk_b (tk_l dX1_found_71) (tk_b (tk_l dX1_found_72) (tk_l dX1_found_73))) (tk_b (tk_b (tk_l dX1_found_75) (tk_l dX1_found_78)) (tk_b (tk_l dX1_found_79) (tk_l dX1_found_81)))) (tk_b (tk_b (tk_l dX1_found_83) (tk_b (tk_l dX1_found_86) (tk_l dX1_found_87))) (tk_b (tk_b (tk_l dX1_found_89) (tk_l dX1_found_92)) (tk_b (tk_l dX1_found_93) (tk_l dX1_found_94)))))))
def tbX1_freeBetween (pc : Nat) : Option (Instr × Nat) := (cond (Nat.ble pc 25) (cond (Nat.ble pc 10) (cond (Nat.ble pc 4) (cond (Nat.ble pc 0) (cond (Nat.beq pc 0) (some (.aload_n 0, 1)) none) (cond (Nat.ble pc 1) (cond (Nat.beq pc 1) (some (.getfield 27, 3)) none) (cond (Nat.beq pc 4) (some (.new 54, 3)) none))) (cond (Nat.ble pc 8) (cond (Nat.ble pc 7) (cond (Nat.beq pc 7) (some (.dup, 1)) none) (cond (Nat.beq pc 8) (some (.iload_n 1, 1)) none)) (cond (Nat.ble pc 9) (cond (Nat.beq pc 9) (some (.iload_n 2, 1)) none) (cond (Nat.beq pc 10) (some (.invokespecial 56, 3)) none)))) (cond (Nat.ble pc 20) (cond (Nat.ble pc 16) (cond (Nat.ble pc 13) (cond (Nat.beq pc 13) (some (.invokevirtual 97, 3)) none) (cond (Nat.beq pc 16) (some (.checkcast 66, 3)) none)) (cond (Nat.ble pc 19) (cond (Nat.beq pc 19) (some (.astore_n 3, 1)) none) (cond (Nat.beq pc 20) (some (.aload_n 3, 1)) none))) (cond (Nat.ble pc 22) (cond (Nat.ble pc 21) (cond (Nat.beq pc 21) (some (.arraylength, 1)) none) (cond (Nat.beq pc 22) (some (.istore 4, 2)) none)) (cond (Nat.ble pc 24) (cond (Nat.beq pc 24) (some (.iconst 0, 1)) none) (cond (Nat.beq pc 25) (some (.istore 5, 2)) none))))) (cond (Nat.ble pc 40) (cond (Nat.ble pc 34) (cond (Nat.ble pc 29) (cond (Nat.ble pc 27) (cond (Nat.beq pc 27) (some (.iload 5, 2)) none) (cond (Nat.beq pc 29) (some (.iload 4, 2)) none)) (cond (Nat.ble pc 31) (cond (Nat.beq pc 31) (some (.if_icmp .ge 26, 3)) none) (cond (Nat.beq pc 34) (some (.aload_n 3, 1)) none))) (cond (Nat.ble pc 37) (cond (Nat.ble pc 35) (cond (Nat.beq pc 35) (some (.iload 5, 2)) none) (cond (Nat.beq pc 37) (some (.aaload, 1)) none)) (cond (Nat.ble pc 38) (cond (Nat.beq pc 38) (some (.astore 6, 2)) none) (cond (Nat.beq pc 40) (some (.aload 6, 2)) none)))) (cond (Nat.ble pc 50) (cond (Nat.ble pc 45) (cond (Nat.ble pc 42) (cond (Nat.beq pc 42) (some (.invokevirtual 100, 3)) none) (cond (Nat.beq pc 45) (some (.ifCond .eq 6, 3)) none)) (cond (Nat.ble pc 48) (cond (Nat.beq pc 48) (some (.aload 6, 2)) none) (cond (Nat.beq pc 50) (some (.areturn, 1)) none))) (cond (Nat.ble pc 54) (cond (Nat.ble pc 51) (cond (Nat.beq pc 51) (some (.iinc 5 1, 3)) none) (cond (Nat.beq pc 54) (some (.goto (-27), 3)) none)) (cond (Nat.ble pc 57) (cond (Nat.beq pc 57) (some (.aconst_null, 1)) none) (cond (Nat.beq pc 58) (some (.areturn, 1)) none))))))
theorem tkX1_freeBetween : tkAll cX1_freeBetween tbX1_freeBetween := fun pc => (tk_b (tk_b (tk_b (tk_b (tk_l dX1_freeBetween_0) (tk_b (tk_l dX1_freeBetween_1) (tk_l dX1_freeBetween_4))) (tk_b (tk_b (tk_l dX1_freeBetween_7) (tk_l dX1_freeBetween_8)) (tk_b (tk_l dX1_freeBetween_9) (tk_l dX1_freeBetween_10)))) (tk_b (tk_b (tk_b (tk_l dX1_freeBetween_13) (tk_l dX1_freeBetween_16)) (tk_b (tk_l dX1_freeBetween_19) (tk_l dX1_freeBetween_20))) (tk_b (tk_b (tk_l dX1_freeBetween_21) (tk_l dX1_freeBetween_22)) (tk_b (tk_l dX1_freeBetween_24) (tk_l dX1_freeBetween_25))))) (tk_b (tk_b (tk_b (tk_b (tk_l dX1_freeBetween_27) (tk_l dX1_freeBetween_29)) (tk_b (tk_l dX1_freeBetween_31) (tk_l dX1_freeBetween_34))) (tk_b (tk_b (tk_l dX1_freeBetween_35) (tk_l dX1_freeBetween_37)) (tk_b (tk_l dX1_freeBetween_38) (tk_l dX1_freeBetween_40)))) (tk_b (tk_b (tk_b (tk_l dX1_freeBetween_42) (tk_l dX1_freeBetween_45)) (tk_b (tk_l dX1_freeBetween_48) (tk_l dX1_freeBetween_50))) (tk_b (tk_b (tk_l dX1_freeBetween_51) (tk_l dX1_freeBetween_54)) (tk_b (tk_l dX1_freeBetween_57) (tk_l dX1_freeBetween_58))))))
def tbX1_ask (pc : Nat) : Option (Instr × Nat) := (cond (Nat.ble pc 74) (cond (Nat.ble pc 35) (cond (Nat.ble pc 12) (cond (Nat.ble pc 5) (cond (Nat.ble pc 1) (cond (Nat.ble pc 0) (cond (Nat.beq pc 0) (some (.aload_n 0, 1)) none) (cond (Nat.beq pc 1) (some (.iload_n 1, 1)) none)) (cond (Nat.ble pc 2) (cond (Nat.beq pc 2) (some (.invokevirtual 150, 3)) none) (cond (Nat.beq pc 5) (some (.astore_n 3, 1)) none))) (cond (Nat.ble pc 7) (cond (Nat.ble pc 6) (cond (Nat.beq pc 6) (some (.iload_n 2, 1)) none) (cond (Nat.beq pc 7) (some (.iconst 0, 1)) none)) (cond (Nat.ble pc 8) (cond (Nat.beq pc 8) (some (.iconst 3, 1)) none) (cond (Nat.ble pc 9) (cond (Nat.beq pc 9) (some (.invokestatic 139, 3)) none) (cond (Nat.beq pc 12) (some (.aload_n 3, 1)) none))))) (cond (Nat.ble pc 23) (cond (Nat.ble pc 16) (cond (Nat.ble pc 13) (cond (Nat.beq pc 13) (some (.getfield 123, 3)) none) (cond (Nat.beq pc 16) (some (.invokestatic 154, 3)) none)) (cond (Nat.ble pc 19) (cond (Nat.beq pc 19) (some (.aload_n 3, 1)) none) (cond (Nat.ble pc 20) (cond (Nat.beq pc 20) (some (.getfield 236, 3)) none) (cond (Nat.beq pc 23) (some (.ifnonnull 23, 3)) none)))) (cond (Nat.ble pc 27) (cond (Nat.ble pc 26) (cond (Nat.beq pc 26) (some (.aload_n 0, 1)) none) (cond (Nat.beq pc 27) (some (.getfield 38, 3)) none)) (cond (Nat.ble pc 30) (cond (Nat.beq pc 30) (some (.invokevirtual 146, 3)) none) (cond (Nat.ble pc 33) (cond (Nat.beq pc 33) (some (.bipush 40, 2)) none) (cond (Nat.beq pc 35) (some (.if_icmp .ge 7, 3)) none)))))) (cond (Nat.ble pc 54) (cond (Nat.ble pc 43) (cond (Nat.ble pc 39) (cond (Nat.ble pc 38) (cond (Nat.beq pc 38) (some (.iconst 1, 1)) none) (cond (Nat.beq pc 39) (some (.goto 23, 3)) none)) (cond (Nat.ble pc 42) (cond (Nat.beq pc 42) (some (.iconst 0, 1)) none) (cond (Nat.beq pc 43) (some (.goto 19, 3)) none))) (cond (Nat.ble pc 47) (cond (Nat.ble pc 46) (cond (Nat.beq pc 46) (some (.aload_n 3, 1)) none) (cond (Nat.beq pc 47) (some (.getfield 236, 3)) none)) (cond (Nat.ble pc 50) (cond (Nat.beq pc 50) (some (.getfield 239, 3)) none) (cond (Nat.ble pc 53) (cond (Nat.beq pc 53) (some (.iload_n 2, 1)) none) (cond (Nat.beq pc 54) (some (.if_icmp .ne 7, 3)) none))))) (cond (Nat.ble pc 65) (cond (Nat.ble pc 58) (cond (Nat.ble pc 57) (cond (Nat.beq pc 57) (some (.iconst 1, 1)) none) (cond (Nat.beq pc 58) (some (.goto 4, 3)) none)) (cond (Nat.ble pc 61) (cond (Nat.beq pc 61) (some (.iconst 0, 1)) none) (cond (Nat.ble pc 62) (cond (Nat.beq pc 62) (some (.invokestatic 154, 3)) none) (cond (Nat.beq pc 65) (some (.aload_n 0, 1)) none)))) (cond (Nat.ble pc 67) (cond (Nat.ble pc 66) (cond (Nat.beq pc 66) (some (.aload_n 3, 1)) none) (cond (Nat.beq pc 67) (some (.getfield 127, 3)) none)) (cond (Nat.ble pc 70) (cond (Nat.beq pc 70) (some (.iload_n 2, 1)) none) (cond (Nat.ble pc 71) (cond (Nat.beq pc 71) (some (.invokevirtual 240, 3)) none) (cond (Nat.beq pc 74) (some (.astore 4, 2)) none))))))) (cond (Nat.ble pc 111) (cond (Nat.ble pc 91) (cond (Nat.ble pc 82) (cond (Nat.ble pc 78) (cond (Nat.ble pc 76) (cond (Nat.beq pc 76) (some (.aload 4, 2)) none) (cond (Nat.beq pc 78) (some (.ifnonnull 5, 3)) none)) (cond (Nat.ble pc 81) (cond (Nat.beq pc 81) (some (.iconst (-1), 1)) none) (cond (Nat.beq pc 82) (some (.ireturn, 1)) none))) (cond (Nat.ble pc 84) (cond (Nat.ble pc 83) (cond (Nat.beq pc 83) (some (.aload_n 3, 1)) none) (cond (Nat.beq pc 84) (some (.getfield 236, 3)) none)) (cond (Nat.ble pc 87) (cond (Nat.beq pc 87) (some (.ifnonnull 42, 3)) none) (cond (Nat.ble pc 90) (cond (Nat.beq pc 90) (some (.aload_n 3, 1)) none) (cond (Nat.beq pc 91) (some (.new 158, 3)) none))))) (cond (Nat.ble pc 102) (cond (Nat.ble pc 95) (cond (Nat.ble pc 94) (cond (Nat.beq pc 94) (some (.dup, 1)) none) (cond (Nat.beq pc 95) (some (.aload_n 0, 1)) none)) (cond (Nat.ble pc 96) (cond (Nat.beq pc 96) (some (.getfield 38, 3)) none) (cond (Nat.ble pc 99) (cond (Nat.beq pc 99) (some (.invokevirtual 146, 3)) none) (cond (Nat.beq pc 102) (some (.aload_n 3, 1)) none)))) (cond (Nat.ble pc 106) (cond (Nat.ble pc 103) (cond (Nat.beq pc 103) (some (.getfield 215, 3)) none) (cond (Nat.beq pc 106) (some (.aload_n 3, 1)) none)) (cond (Nat.ble pc 107) (cond (Nat.beq pc 107) (some (.getfield 127, 3)) none) (cond (Nat.ble pc 110) (cond (Nat.beq pc 110) (some (.iload_n 2, 1)) none) (cond (Nat.beq pc 111) (some (.invokespecial 243, 3)) none)))))) (cond (Nat.ble pc 133) (cond (Nat.ble pc 122) (cond (Nat.ble pc 117) (cond (Nat.ble pc 114) (cond (Nat.beq pc 114) (some (.putfield 236, 3)) none) (cond (Nat.beq pc 117) (some (.aload_n 0, 1)) none)) (cond (Nat.ble pc 118) (cond (Nat.beq pc 118) (some (.getfield 38, 3)) none) (cond (Nat.ble pc 121) (cond (Nat.beq pc 121) (some (.aload_n 3, 1)) none) (cond (Nat.beq pc 122) (some (.getfield 236, 3)) none)))) (cond (Nat.ble pc 128) (cond (Nat.ble pc 125) (cond (Nat.beq pc 125) (some (.invokevirtual 50, 3)) none) (cond (Nat.beq pc 128) (some (.pop, 1)) none)) (cond (Nat.ble pc 129) (cond (Nat.beq pc 129) (some (.aload_n 3, 1)) none) (cond (Nat.ble pc 130) (cond (Nat.beq pc 130) (some (.getfield 236, 3)) none) (cond (Nat.beq pc 133) (some (.getfield 246, 3)) none))))) (cond (Nat.ble pc 144) (cond (Nat.ble pc 138) (cond (Nat.ble pc 136) (cond (Nat.beq pc 136) (some (.aload 4, 2)) none) (cond (Nat.beq pc 138) (some (.invokevirtual 50, 3)) none)) (cond (Nat.ble pc 141) (cond (Nat.beq pc 141) (some (.pop, 1)) none) (cond (Nat.ble pc 142) (cond (Nat.beq pc 142) (some (.aload 4, 2)) none) (cond (Nat.beq pc 144) (some (.aload_n 3, 1)) none)))) (cond (Nat.ble pc 148) (cond (Nat.ble pc 145) (cond (Nat.beq pc 145) (some (.getfield 236, 3)) none) (cond (Nat.beq pc 148) (some (.putfield 89, 3)) none)) (cond (Nat.ble pc 151) (cond (Nat.beq pc 151) (some (.aload 4, 2)) none) (cond (Nat.ble pc 153) (cond (Nat.beq pc 153) (some (.getfield 170, 3)) none) (cond (Nat.beq pc 156) (some (.ireturn, 1)) none))))))))
theorem tkX1_ask : tkAll cX1_ask tbX1_ask := fun pc => (tk_b (tk_b (tk_b (tk_b (tk_b (tk_b (tk_l dX1_ask_0) (tk_l dX1_ask_1)) (tk_b (tk_l dX1_ask_2) (tk_l dX1_ask_5))) (tk_b (tk_b (tk_l dX1_ask_6) (tk_l dX1_ask_7)) (tk_b (tk_l dX1_ask_8) (tk_b (tk_l dX1_ask_9) (tk_l dX1_ask_12))))) (tk_b (tk_b (tk_b (tk_l dX1_ask_13) (tk_l dX1_ask_16)) (tk_b (tk_l dX1_ask_19) (tk_b (tk_l dX1_ask_20) (tk_l dX1_ask_23)))) (tk_b (tk_b (tk_l dX1_ask_26) (tk_l dX1_ask_27)) (tk_b (tk_l dX1_ask_30) (tk_b (tk_l dX1_ask_33) (tk_l dX1_ask_35)))))) (tk_b (tk_b (tk_b (tk_b (tk_l dX1_ask_38) (tk_l dX1_ask_39)) (tk_b (tk_l dX1_ask_42) (tk_l dX1_ask_43))) (tk_b (tk_b (tk_l dX1_ask_46) (tk_l dX1_ask_47)) (tk_b (tk_l dX1_ask_50) (tk_b (tk_l dX1_ask_53) (tk_l dX1_ask_54))))) (tk_b (tk_b (tk_b (tk_l dX1_ask_57) (tk_l dX1_ask_58)) (tk_b (tk_l dX1_ask_61) (tk_b (tk_l dX1_ask_62) (tk_l dX1_ask_65)))) (tk_b (tk_b (tk_l dX1_ask_66) (tk_l dX1_ask_67)) (tk_b (tk_l dX1_ask_70) (tk_b (tk_l dX1_ask_71) (tk_l dX1_ask_74))))))) (tk_b (tk_b (tk_b (tk_b (tk_b (tk_l dX1_ask_76) (tk_l dX1_ask_78)) (tk_b (tk_l dX1_ask_81) (tk_l dX1_ask_82))) (tk_b (tk_b (tk_l dX1_ask_83) (tk_l dX1_ask_84)) (tk_b (tk_l dX1_ask_87) (tk_b (tk_l dX1_ask_90) (tk_l dX1_ask_91))))) (tk_b (tk_b (tk_b (tk_l dX1_ask_94) (tk_l dX1_ask_95)) (tk_b (tk_l dX1_ask_96) (tk_b (tk_l dX1_ask_99) (tk_l dX1_ask_102)))) (tk_b (tk_b (tk_l dX1_ask_103) (tk_l dX1_ask_106)) (tk_b (tk_l dX1_ask_107) (tk_b (tk_l dX1_ask_110) (tk_l dX1_ask_111)))))) (tk_b (tk_b (tk_b (tk_b (tk_l dX1_ask_114) (tk_l dX1_ask_117)) (tk_b (tk_l dX1_ask_118) (tk_b (tk_l dX1_ask_121) (tk_l dX1_ask_122)))) (tk_b (tk_b (tk_l dX1_ask_125) (tk_l dX1_ask_128)) (tk_b (tk_l dX1_ask_129) (tk_b (tk_l dX1_ask_130) (tk_l dX1_ask_133))))) (tk_b (tk_b (tk_b (tk_l dX1_ask_136) (tk_l dX1_ask_138)) (tk_b (tk_l dX1_ask_141) (tk_b (tk_l dX1_ask_142) (tk_l dX1_ask_144)))) (tk_b (tk_b (tk_l dX1_ask_145) (tk_l dX1_ask_148)) (tk_b (tk_l dX1_ask_151) (tk_b (tk_l dX1_ask_153) (tk_l dX1_ask_156))))))))
def tbX1_named (pc : Nat) : Option (Instr × Nat) := (cond (Nat.ble pc 8) (cond (Nat.ble pc 1) (cond (Nat.ble pc 0) (cond (Nat.beq pc 0) (some (.iload_n 1, 1)) none) (cond (Nat.beq pc 1) (some (.aload_n 0, 1)) none)) (cond (Nat.ble pc 2) (cond (Nat.beq pc 2) (some (.getfield 35, 3)) none) (cond (Nat.ble pc 5) (cond (Nat.beq pc 5) (some (.invokevirtual 146, 3)) none) (cond (Nat.beq pc 8) (some (.invokestatic 147, 3)) none)))) (cond (Nat.ble pc 15) (cond (Nat.ble pc 11) (cond (Nat.beq pc 11) (some (.aload_n 0, 1)) none) (cond (Nat.ble pc 12) (cond (Nat.beq pc 12) (some (.getfield 35, 3)) none) (cond (Nat.beq pc 15) (some (.iload_n 1, 1)) none))) (cond (Nat.ble pc 16) (cond (Nat.beq pc 16) (some (.invokevirtual 74, 3)) none) (cond (Nat.ble pc 19) (cond (Nat.beq pc 19) (some (.checkcast 121, 3)) none) (cond (Nat.beq pc 22) (some (.areturn, 1)) none)))))
theorem tkX1_named : tkAll cX1_named tbX1_named := fun pc => (tk_b (tk_b (tk_b (tk_l dX1_named_0) (tk_l dX1_named_1)) (tk_b (tk_l dX1_named_2) (tk_b (tk_l dX1_named_5) (tk_l dX1_named_8)))) (tk_b (tk_b (tk_l dX1_named_11) (tk_b (tk_l dX1_named_12) (tk_l dX1_named_15))) (tk_b (tk_l dX1_named_16) (tk_b (tk_l dX1_named_19) (tk_l dX1_named_22)))))
def tbX1_found_2 (pc : Nat) : Option (Instr × Nat) := (cond (Nat.ble pc 48) (cond (Nat.ble pc 20) (cond (Nat.ble pc 7) (cond (Nat.ble pc 2) (cond (Nat.ble pc 0) (cond (Nat.beq pc 0) (some (.aconst_null, 1)) none) (cond (Nat.ble pc 1) (cond (Nat.beq pc 1) (some (.astore_n 3, 1)) none) (cond (Nat.beq pc 2) (some (.bipush 6, 2)) none))) (cond (Nat.ble pc 4) (cond (Nat.beq pc 4) (some (.istore 4, 2)) none) (cond (Nat.ble pc 6) (cond (Nat.beq pc 6) (some (.iconst 0, 1)) none) (cond (Nat.beq pc 7) (some (.istore 5, 2)) none)))) (cond (Nat.ble pc 12) (cond (Nat.ble pc 9) (cond (Nat.beq pc 9) (some (.iload 5, 2)) none) (cond (Nat.ble pc 11) (cond (Nat.beq pc 11) (some (.iconst 5, 1)) none) (cond (Nat.beq pc 12) (some (.if_icmp .ge 96, 3)) none))) (cond (Nat.ble pc 16) (cond (Nat.ble pc 15) (cond (Nat.beq pc 15) (some (.aload_n 0, 1)) none) (cond (Nat.beq pc 16) (some (.getfield 10, 3)) none)) (cond (Nat.ble pc 19) (cond (Nat.beq pc 19) (some (.iconst 5, 1)) none) (cond (Nat.beq pc 20) (some (.iload_n 1, 1)) none))))) (cond (Nat.ble pc 33) (cond (Nat.ble pc 24) (cond (Nat.ble pc 21) (cond (Nat.beq pc 21) (some (.imul, 1)) none) (cond (Nat.ble pc 22) (cond (Nat.beq pc 22) (some (.iload 5, 2)) none) (cond (Nat.beq pc 24) (some (.iadd, 1)) none))) (cond (Nat.ble pc 28) (cond (Nat.ble pc 25) (cond (Nat.beq pc 25) (some (.invokevirtual 74, 3)) none) (cond (Nat.beq pc 28) (some (.checkcast 47, 3)) none)) (cond (Nat.ble pc 31) (cond (Nat.beq pc 31) (some (.astore 6, 2)) none) (cond (Nat.beq pc 33) (some (.iconst 0, 1)) none)))) (cond (Nat.ble pc 38) (cond (Nat.ble pc 34) (cond (Nat.beq pc 34) (some (.istore 7, 2)) none) (cond (Nat.ble pc 36) (cond (Nat.beq pc 36) (some (.iload 7, 2)) none) (cond (Nat.beq pc 38) (some (.iload 4, 2)) none))) (cond (Nat.ble pc 42) (cond (Nat.ble pc 40) (cond (Nat.beq pc 40) (some (.aload 6, 2)) none) (cond (Nat.beq pc 42) (some (.invokevirtual 78, 3)) none)) (cond (Nat.ble pc 45) (cond (Nat.beq pc 45) (some (.invokestatic 82, 3)) none) (cond (Nat.beq pc 48) (some (.if_icmp .ge 54, 3)) none)))))) (cond (Nat.ble pc 79) (cond (Nat.ble pc 62) (cond (Nat.ble pc 55) (cond (Nat.ble pc 51) (cond (Nat.beq pc 51) (some (.aload 6, 2)) none) (cond (Nat.ble pc 53) (cond (Nat.beq pc 53) (some (.aload 6, 2)) none) (cond (Nat.beq pc 55) (some (.invokevirtual 78, 3)) none))) (cond (Nat.ble pc 59) (cond (Nat.ble pc 58) (cond (Nat.beq pc 58) (some (.iconst 1, 1)) none) (cond (Nat.beq pc 59) (some (.isub, 1)) none)) (cond (Nat.ble pc 60) (cond (Nat.beq pc 60) (some (.iload 7, 2)) none) (cond (Nat.beq pc 62) (some (.isub, 1)) none)))) (cond (Nat.ble pc 69) (cond (Nat.ble pc 63) (cond (Nat.beq pc 63) (some (.invokevirtual 88, 3)) none) (cond (Nat.ble pc 66) (cond (Nat.beq pc 66) (some (.checkcast 69, 3)) none) (cond (Nat.beq pc 69) (some (.astore 8, 2)) none))) (cond (Nat.ble pc 73) (cond (Nat.ble pc 71) (cond (Nat.beq pc 71) (some (.aload 8, 2)) none) (cond (Nat.beq pc 73) (some (.getfield 89, 3)) none)) (cond (Nat.ble pc 76) (cond (Nat.beq pc 76) (some (.ifnonnull 20, 3)) none) (cond (Nat.beq pc 79) (some (.aload_n 0, 1)) none))))) (cond (Nat.ble pc 92) (cond (Nat.ble pc 83) (cond (Nat.ble pc 80) (cond (Nat.beq pc 80) (some (.aload 8, 2)) none) (cond (Nat.ble pc 82) (cond (Nat.beq pc 82) (some (.iload_n 2, 1)) none) (cond (Nat.beq pc 83) (some (.invokevirtual 93, 3)) none))) (cond (Nat.ble pc 89) (cond (Nat.ble pc 86) (cond (Nat.beq pc 86) (some (.ifCond .eq 10, 3)) none) (cond (Nat.beq pc 89) (some (.aload 8, 2)) none)) (cond (Nat.ble pc 91) (cond (Nat.beq pc 91) (some (.astore_n 3, 1)) none) (cond (Nat.beq pc 92) (some (.iload 7, 2)) none)))) (cond (Nat.ble pc 99) (cond (Nat.ble pc 94) (cond (Nat.beq pc 94) (some (.istore 4, 2)) none) (cond (Nat.ble pc 96) (cond (Nat.beq pc 96) (some (.iinc 7 1, 3)) none) (cond (Nat.beq pc 99) (some (.goto (-63), 3)) none))) (cond (Nat.ble pc 105) (cond (Nat.ble pc 102) (cond (Nat.beq pc 102) (some (.iinc 5 1, 3)) none) (cond (Nat.beq pc 105) (some (.goto (-96), 3)) none)) (cond (Nat.ble pc 108) (cond (Nat.beq pc 108) (some (.aload_n 3, 1)) none) (cond (Nat.beq pc 109) (some (.areturn, 1)) none)))))))
theorem tkX1_found_2 : tkAll cX1_found_2 tbX1_found_2 := fun pc => (tk_b (tk_b (tk_b (tk_b (tk_b (tk_l dX1_found_2_0) (tk_b (tk_l dX1_found_2_1) (tk_l dX1_found_2_2))) (tk_b (tk_l dX1_found_2_4) (tk_b (tk_l dX1_found_2_6) (tk_l dX1_found_2_7)))) (tk_b (tk_b (tk_l dX1_found_2_9) (tk_b (tk_l dX1_found_2_11) (tk_l dX1_found_2_12))) (tk_b (tk_b (tk_l dX1_found_2_15) (tk_l dX1_found_2_16)) (tk_b (tk_l dX1_found_2_19) (tk_l dX1_found_2_20))))) (tk_b (tk_b (tk_b (tk_l dX1_found_2_21) (tk_b (tk_l dX1_found_2_22) (tk_l dX1_found_2_24))) (tk_b (tk_b (tk_l dX1_found_2_25) (tk_l dX1_found_2_28)) (tk_b (tk_l dX1_found_2_31) (tk_l dX1_found_2_33)))) (tk_b (tk_b (tk_l dX1_found_2_34) (tk_b (tk_l dX1_found_2_36) (tk_l dX1_found_2_38))) (tk_b (tk_b (tk_l dX1_found_2_40) (tk_l dX1_found_2_42)) (tk_b (tk_l dX1_found_2_45) (tk_l dX1_found_2_48)))))) (tk_b (tk_b (tk_b (tk_b (tk_l dX1_found_2_51) (tk_b (tk_l dX1_found_2_53) (tk_l dX1_found_2_55))) (tk_b (tk_b (tk_l dX1_found_2_58) (tk_l dX1_found_2_59)) (tk_b (tk_l dX1_found_2_60) (tk_l dX1_found_2_62)))) (tk_b (tk_b (tk_l dX1_found_2_63) (tk_b (tk_l dX1_found_2_66) (tk_l dX1_found_2_69))) (tk_b (tk_b (tk_l dX1_found_2_71) (tk_l dX1_found_2_73)) (tk_b (tk_l dX1_found_2_76) (tk_l dX1_found_2_79))))) (tk_b (tk_b (tk_b (tk_l dX1_found_2_80) (tk_b (tk_l dX1_found_2_82) (tk_l dX1_found_2_83))) (tk_b (tk_b (tk_l dX1_found_2_86) (tk_l dX1_found_2_89)) (tk_b (tk_l dX1_found_2_91) (tk_l dX1_found_2_92)))) (tk_b (tk_b (tk_l dX1_found_2_94) (tk_b (tk_l dX1_found_2_96) (tk_l dX1_found_2_99))) (tk_b (tk_b (tk_l dX1_found_2_102) (tk_l dX1_found_2_105)) (tk_b (tk_l dX1_found_2_108) (tk_l dX1_found_2_109)))))))
def tbX1_fits (pc : Nat) : Option (Instr × Nat) := (cond (Nat.ble pc 17) (cond (Nat.ble pc 8) (cond (Nat.ble pc 1) (cond (Nat.ble pc 0) (cond (Nat.beq pc 0) (some (.aload_n 1, 1)) none) (cond (Nat.beq pc 1) (some (.getfield 68, 3)) none)) (cond (Nat.ble pc 4) (cond (Nat.beq pc 4) (some (.iconst (-1), 1)) none) (cond (Nat.ble pc 5) (cond (Nat.beq pc 5) (some (.if_icmp .eq 25, 3)) none) (cond (Nat.beq pc 8) (some (.aload_n 1, 1)) none)))) (cond (Nat.ble pc 12) (cond (Nat.ble pc 9) (cond (Nat.beq pc 9) (some (.getfield 68, 3)) none) (cond (Nat.beq pc 12) (some (.iload_n 2, 1)) none)) (cond (Nat.ble pc 13) (cond (Nat.beq pc 13) (some (.if_icmp .eq 17, 3)) none) (cond (Nat.ble pc 16) (cond (Nat.beq pc 16) (some (.aload_n 0, 1)) none) (cond (Nat.beq pc 17) (some (.getfield 21, 3)) none))))) (cond (Nat.ble pc 26) (cond (Nat.ble pc 21) (cond (Nat.ble pc 20) (cond (Nat.beq pc 20) (some (.aload_n 1, 1)) none) (cond (Nat.beq pc 21) (some (.getfield 68, 3)) none)) (cond (Nat.ble pc 24) (cond (Nat.beq pc 24) (some (.aaload, 1)) none) (cond (Nat.ble pc 25) (cond (Nat.beq pc 25) (some (.iload_n 2, 1)) none) (cond (Nat.beq pc 26) (some (.baload, 1)) none)))) (cond (Nat.ble pc 30) (cond (Nat.ble pc 27) (cond (Nat.beq pc 27) (some (.ifCond .eq 7, 3)) none) (cond (Nat.beq pc 30) (some (.iconst 1, 1)) none)) (cond (Nat.ble pc 31) (cond (Nat.beq pc 31) (some (.goto 4, 3)) none) (cond (Nat.ble pc 34) (cond (Nat.beq pc 34) (some (.iconst 0, 1)) none) (cond (Nat.beq pc 35) (some (.ireturn, 1)) none))))))
theorem tkX1_fits : tkAll cX1_fits tbX1_fits := fun pc => (tk_b (tk_b (tk_b (tk_b (tk_l dX1_fits_0) (tk_l dX1_fits_1)) (tk_b (tk_l dX1_fits_4) (tk_b (tk_l dX1_fits_5) (tk_l dX1_fits_8)))) (tk_b (tk_b (tk_l dX1_fits_9) (tk_l dX1_fits_12)) (tk_b (tk_l dX1_fits_13) (tk_b (tk_l dX1_fits_16) (tk_l dX1_fits_17))))) (tk_b (tk_b (tk_b (tk_l dX1_fits_20) (tk_l dX1_fits_21)) (tk_b (tk_l dX1_fits_24) (tk_b (tk_l dX1_fits_25) (tk_l dX1_fits_26)))) (tk_b (tk_b (tk_l dX1_fits_27) (tk_l dX1_fits_30)) (tk_b (tk_l dX1_fits_31) (tk_b (tk_l dX1_fits_34) (tk_l dX1_fits_35))))))
def tbX1_confirm (pc : Nat) : Option (Instr × Nat) := (cond (Nat.ble pc 21) (cond (Nat.ble pc 7) (cond (Nat.ble pc 2) (cond (Nat.ble pc 0) (cond (Nat.beq pc 0) (some (.aload_n 0, 1)) none) (cond (Nat.ble pc 1) (cond (Nat.beq pc 1) (some (.iload_n 1, 1)) none) (cond (Nat.beq pc 2) (some (.invokevirtual 249, 3)) none))) (cond (Nat.ble pc 5) (cond (Nat.beq pc 5) (some (.astore_n 2, 1)) none) (cond (Nat.ble pc 6) (cond (Nat.beq pc 6) (some (.aload_n 2, 1)) none) (cond (Nat.beq pc 7) (some (.getfield 236, 3)) none)))) (cond (Nat.ble pc 14) (cond (Nat.ble pc 10) (cond (Nat.beq pc 10) (some (.ifnull 7, 3)) none) (cond (Nat.ble pc 13) (cond (Nat.beq pc 13) (some (.iconst 1, 1)) none) (cond (Nat.beq pc 14) (some (.goto 4, 3)) none))) (cond (Nat.ble pc 17) (cond (Nat.beq pc 17) (some (.iconst 0, 1)) none) (cond (Nat.ble pc 18) (cond (Nat.beq pc 18) (some (.invokestatic 154, 3)) none) (cond (Nat.beq pc 21) (some (.aload_n 2, 1)) none))))) (cond (Nat.ble pc 33) (cond (Nat.ble pc 26) (cond (Nat.ble pc 22) (cond (Nat.beq pc 22) (some (.getfield 236, 3)) none) (cond (Nat.ble pc 25) (cond (Nat.beq pc 25) (some (.astore_n 3, 1)) none) (cond (Nat.beq pc 26) (some (.aload_n 3, 1)) none))) (cond (Nat.ble pc 27) (cond (Nat.beq pc 27) (some (.getstatic 252, 3)) none) (cond (Nat.ble pc 30) (cond (Nat.beq pc 30) (some (.invokevirtual 258, 3)) none) (cond (Nat.beq pc 33) (some (.istore 4, 2)) none)))) (cond (Nat.ble pc 37) (cond (Nat.ble pc 35) (cond (Nat.beq pc 35) (some (.aload_n 2, 1)) none) (cond (Nat.ble pc 36) (cond (Nat.beq pc 36) (some (.aconst_null, 1)) none) (cond (Nat.beq pc 37) (some (.putfield 236, 3)) none))) (cond (Nat.ble pc 40) (cond (Nat.beq pc 40) (some (.aload_n 3, 1)) none) (cond (Nat.ble pc 41) (cond (Nat.beq pc 41) (some (.getfield 214, 3)) none) (cond (Nat.beq pc 44) (some (.ireturn, 1)) none))))))
theorem tkX1_confirm : tkAll cX1_confirm tbX1_confirm := fun pc => (tk_b (tk_b (tk_b (tk_b (tk_l dX1_confirm_0) (tk_b (tk_l dX1_confirm_1) (tk_l dX1_confirm_2))) (tk_b (tk_l dX1_confirm_5) (tk_b (tk_l dX1_confirm_6) (tk_l dX1_confirm_7)))) (tk_b (tk_b (tk_l dX1_confirm_10) (tk_b (tk_l dX1_confirm_13) (tk_l dX1_confirm_14))) (tk_b (tk_l dX1_confirm_17) (tk_b (tk_l dX1_confirm_18) (tk_l dX1_confirm_21))))) (tk_b (tk_b (tk_b (tk_l dX1_confirm_22) (tk_b (tk_l dX1_confirm_25) (tk_l dX1_confirm_26))) (tk_b (tk_l dX1_confirm_27) (tk_b (tk_l dX1_confirm_30) (tk_l dX1_confirm_33)))) (tk_b (tk_b (tk_l dX1_confirm_35) (tk_b (tk_l dX1_confirm_36) (tk_l dX1_confirm_37))) (tk_b (tk_l dX1_confirm_40) (tk_b (tk_l dX1_confirm_41) (tk_l dX1_confirm_44))))))
def tbX1_goingOn (pc : Nat) : Option (Instr × Nat) := (cond (Nat.ble pc 5) (cond (Nat.ble pc 1) (cond (Nat.ble pc 0) (cond (Nat.beq pc 0) (some (.aload_n 0, 1)) none) (cond (Nat.beq pc 1) (some (.iload_n 1, 1)) none)) (cond (Nat.ble pc 2) (cond (Nat.beq pc 2) (some (.invokevirtual 150, 3)) none) (cond (Nat.beq pc 5) (some (.astore_n 2, 1)) none))) (cond (Nat.ble pc 7) (cond (Nat.ble pc 6) (cond (Nat.beq pc 6) (some (.aload_n 2, 1)) none) (cond (Nat.beq pc 7) (some (.getfield 123, 3)) none)) (cond (Nat.ble pc 10) (cond (Nat.beq pc 10) (some (.invokestatic 154, 3)) none) (cond (Nat.ble pc 13) (cond (Nat.beq pc 13) (some (.aload_n 2, 1)) none) (cond (Nat.beq pc 14) (some (.areturn, 1)) none)))))
theorem tkX1_goingOn : tkAll cX1_goingOn tbX1_goingOn := fun pc => (tk_b (tk_b (tk_b (tk_l dX1_goingOn_0) (tk_l dX1_goingOn_1)) (tk_b (tk_l dX1_goingOn_2) (tk_l dX1_goingOn_5))) (tk_b (tk_b (tk_l dX1_goingOn_6) (tk_l dX1_goingOn_7)) (tk_b (tk_l dX1_goingOn_10) (tk_b (tk_l dX1_goingOn_13) (tk_l dX1_goingOn_14)))))
def tbX1_resume (pc : Nat) : Option (Instr × Nat) := (cond (Nat.ble pc 29) (cond (Nat.ble pc 11) (cond (Nat.ble pc 5) (cond (Nat.ble pc 1) (cond (Nat.ble pc 0) (cond (Nat.beq pc 0) (some (.aload_n 0, 1)) none) (cond (Nat.beq pc 1) (some (.iload_n 1, 1)) none)) (cond (Nat.ble pc 2) (cond (Nat.beq pc 2) (some (.invokevirtual 150, 3)) none) (cond (Nat.beq pc 5) (some (.astore_n 3, 1)) none))) (cond (Nat.ble pc 7) (cond (Nat.ble pc 6) (cond (Nat.beq pc 6) (some (.aload_n 0, 1)) none) (cond (Nat.beq pc 7) (some (.iload_n 2, 1)) none)) (cond (Nat.ble pc 8) (cond (Nat.beq pc 8) (some (.invokevirtual 264, 3)) none) (cond (Nat.beq pc 11) (some (.astore 4, 2)) none)))) (cond (Nat.ble pc 20) (cond (Nat.ble pc 14) (cond (Nat.ble pc 13) (cond (Nat.beq pc 13) (some (.aload_n 3, 1)) none) (cond (Nat.beq pc 14) (some (.getfield 123, 3)) none)) (cond (Nat.ble pc 17) (cond (Nat.beq pc 17) (some (.ifCond .eq 34, 3)) none) (cond (Nat.beq pc 20) (some (.aload_n 3, 1)) none))) (cond (Nat.ble pc 24) (cond (Nat.ble pc 21) (cond (Nat.beq pc 21) (some (.getfield 236, 3)) none) (cond (Nat.beq pc 24) (some (.ifnonnull 27, 3)) none)) (cond (Nat.ble pc 27) (cond (Nat.beq pc 27) (some (.aload 4, 2)) none) (cond (Nat.beq pc 29) (some (.getfield 268, 3)) none))))) (cond (Nat.ble pc 48) (cond (Nat.ble pc 40) (cond (Nat.ble pc 35) (cond (Nat.ble pc 32) (cond (Nat.beq pc 32) (some (.getstatic 271, 3)) none) (cond (Nat.beq pc 35) (some (.if_acmp .ne 16, 3)) none)) (cond (Nat.ble pc 38) (cond (Nat.beq pc 38) (some (.aload 4, 2)) none) (cond (Nat.beq pc 40) (some (.aload_n 3, 1)) none))) (cond (Nat.ble pc 44) (cond (Nat.ble pc 41) (cond (Nat.beq pc 41) (some (.invokestatic 274, 3)) none) (cond (Nat.beq pc 44) (some (.ifCond .eq 7, 3)) none)) (cond (Nat.ble pc 47) (cond (Nat.beq pc 47) (some (.iconst 1, 1)) none) (cond (Nat.beq pc 48) (some (.goto 4, 3)) none)))) (cond (Nat.ble pc 56) (cond (Nat.ble pc 52) (cond (Nat.ble pc 51) (cond (Nat.beq pc 51) (some (.iconst 0, 1)) none) (cond (Nat.beq pc 52) (some (.invokestatic 154, 3)) none)) (cond (Nat.ble pc 55) (cond (Nat.beq pc 55) (some (.aload_n 3, 1)) none) (cond (Nat.beq pc 56) (some (.aload 4, 2)) none))) (cond (Nat.ble pc 61) (cond (Nat.ble pc 58) (cond (Nat.beq pc 58) (some (.putfield 236, 3)) none) (cond (Nat.beq pc 61) (some (.aload 4, 2)) none)) (cond (Nat.ble pc 63) (cond (Nat.beq pc 63) (some (.getstatic 278, 3)) none) (cond (Nat.ble pc 66) (cond (Nat.beq pc 66) (some (.invokevirtual 258, 3)) none) (cond (Nat.beq pc 69) (some (.ireturn, 1)) none)))))))
theorem tkX1_resume : tkAll cX1_resume tbX1_resume := fun pc => (tk_b (tk_b (tk_b (tk_b (tk_b (tk_l dX1_resume_0) (tk_l dX1_resume_1)) (tk_b (tk_l dX1_resume_2) (tk_l dX1_resume_5))) (tk_b (tk_b (tk_l dX1_resume_6) (tk_l dX1_resume_7)) (tk_b (tk_l dX1_resume_8) (tk_l dX1_resume_11)))) (tk_b (tk_b (tk_b (tk_l dX1_resume_13) (tk_l dX1_resume_14)) (tk_b (tk_l dX1_resume_17) (tk_l dX1_resume_20))) (tk_b (tk_b (tk_l dX1_resume_21) (tk_l dX1_resume_24)) (tk_b (tk_l dX1_resume_27) (tk_l dX1_resume_29))))) (tk_b (tk_b (tk_b (tk_b (tk_l dX1_resume_32) (tk_l dX1_resume_35)) (tk_b (tk_l dX1_resume_38) (tk_l dX1_resume_40))) (tk_b (tk_b (tk_l dX1_resume_41) (tk_l dX1_resume_44)) (tk_b (tk_l dX1_resume_47) (tk_l dX1_resume_48)))) (tk_b (tk_b (tk_b (tk_l dX1_resume_51) (tk_l dX1_resume_52)) (tk_b (tk_l dX1_resume_55) (tk_l dX1_resume_56))) (tk_b (tk_b (tk_l dX1_resume_58) (tk_l dX1_resume_61)) (tk_b (tk_l dX1_resume_63) (tk_b (tk_l dX1_resume_66) (tk_l dX1_resume_69)))))))
def tbX1_bookingOf (pc : Nat) : Option (Instr × Nat) := (cond (Nat.ble pc 8) (cond (Nat.ble pc 1) (cond (Nat.ble pc 0) (cond (Nat.beq pc 0) (some (.iload_n 1, 1)) none) (cond (Nat.beq pc 1) (some (.aload_n 0, 1)) none)) (cond (Nat.ble pc 2) (cond (Nat.beq pc 2) (some (.getfield 38, 3)) none) (cond (Nat.ble pc 5) (cond (Nat.beq pc 5) (some (.invokevirtual 146, 3)) none) (cond (Nat.beq pc 8) (some (.invokestatic 147, 3)) none)))) (cond (Nat.ble pc 15) (cond (Nat.ble pc 11) (cond (Nat.beq pc 11) (some (.aload_n 0, 1)) none) (cond (Nat.ble pc 12) (cond (Nat.beq pc 12) (some (.getfield 38, 3)) none) (cond (Nat.beq pc 15) (some (.iload_n 1, 1)) none))) (cond (Nat.ble pc 16) (cond (Nat.beq pc 16) (some (.invokevirtual 74, 3)) none) (cond (Nat.ble pc 19) (cond (Nat.beq pc 19) (some (.checkcast 158, 3)) none) (cond (Nat.beq pc 22) (some (.areturn, 1)) none)))))
theorem tkX1_bookingOf : tkAll cX1_bookingOf tbX1_bookingOf := fun pc => (tk_b (tk_b (tk_b (tk_l dX1_bookingOf_0) (tk_l dX1_bookingOf_1)) (tk_b (tk_l dX1_bookingOf_2) (tk_b (tk_l dX1_bookingOf_5) (tk_l dX1_bookingOf_8)))) (tk_b (tk_b (tk_l dX1_bookingOf_11) (tk_b (tk_l dX1_bookingOf_12) (tk_l dX1_bookingOf_15))) (tk_b (tk_l dX1_bookingOf_16) (tk_b (tk_l dX1_bookingOf_19) (tk_l dX1_bookingOf_22)))))
def tbX1_isFor (pc : Nat) : Option (Instr × Nat) := (cond (Nat.ble pc 12) (cond (Nat.ble pc 4) (cond (Nat.ble pc 0) (cond (Nat.beq pc 0) (some (.aload_n 0, 1)) none) (cond (Nat.ble pc 1) (cond (Nat.beq pc 1) (some (.getfield 262, 3)) none) (cond (Nat.beq pc 4) (some (.aload_n 1, 1)) none))) (cond (Nat.ble pc 8) (cond (Nat.ble pc 5) (cond (Nat.beq pc 5) (some (.getfield 215, 3)) none) (cond (Nat.beq pc 8) (some (.if_icmp .ne 18, 3)) none)) (cond (Nat.ble pc 11) (cond (Nat.beq pc 11) (some (.aload_n 0, 1)) none) (cond (Nat.beq pc 12) (some (.getfield 263, 3)) none)))) (cond (Nat.ble pc 19) (cond (Nat.ble pc 15) (cond (Nat.beq pc 15) (some (.aload_n 1, 1)) none) (cond (Nat.ble pc 16) (cond (Nat.beq pc 16) (some (.getfield 127, 3)) none) (cond (Nat.beq pc 19) (some (.if_icmp .ne 7, 3)) none))) (cond (Nat.ble pc 23) (cond (Nat.ble pc 22) (cond (Nat.beq pc 22) (some (.iconst 1, 1)) none) (cond (Nat.beq pc 23) (some (.goto 4, 3)) none)) (cond (Nat.ble pc 26) (cond (Nat.beq pc 26) (some (.iconst 0, 1)) none) (cond (Nat.beq pc 27) (some (.ireturn, 1)) none)))))
theorem tkX1_isFor : tkAll cX1_isFor tbX1_isFor := fun pc => (tk_b (tk_b (tk_b (tk_l dX1_isFor_0) (tk_b (tk_l dX1_isFor_1) (tk_l dX1_isFor_4))) (tk_b (tk_b (tk_l dX1_isFor_5) (tk_l dX1_isFor_8)) (tk_b (tk_l dX1_isFor_11) (tk_l dX1_isFor_12)))) (tk_b (tk_b (tk_l dX1_isFor_15) (tk_b (tk_l dX1_isFor_16) (tk_l dX1_isFor_19))) (tk_b (tk_b (tk_l dX1_isFor_22) (tk_l dX1_isFor_23)) (tk_b (tk_l dX1_isFor_26) (tk_l dX1_isFor_27)))))
def tbX1_cancel (pc : Nat) : Option (Instr × Nat) := (cond (Nat.ble pc 22) (cond (Nat.ble pc 7) (cond (Nat.ble pc 2) (cond (Nat.ble pc 0) (cond (Nat.beq pc 0) (some (.aload_n 0, 1)) none) (cond (Nat.ble pc 1) (cond (Nat.beq pc 1) (some (.iload_n 1, 1)) none) (cond (Nat.beq pc 2) (some (.invokevirtual 150, 3)) none))) (cond (Nat.ble pc 5) (cond (Nat.beq pc 5) (some (.astore_n 3, 1)) none) (cond (Nat.ble pc 6) (cond (Nat.beq pc 6) (some (.aload_n 0, 1)) none) (cond (Nat.beq pc 7) (some (.iload_n 2, 1)) none)))) (cond (Nat.ble pc 13) (cond (Nat.ble pc 8) (cond (Nat.beq pc 8) (some (.invokevirtual 264, 3)) none) (cond (Nat.ble pc 11) (cond (Nat.beq pc 11) (some (.astore 4, 2)) none) (cond (Nat.beq pc 13) (some (.aload_n 3, 1)) none))) (cond (Nat.ble pc 17) (cond (Nat.ble pc 14) (cond (Nat.beq pc 14) (some (.getfield 123, 3)) none) (cond (Nat.beq pc 17) (some (.ifCond .eq 27, 3)) none)) (cond (Nat.ble pc 20) (cond (Nat.beq pc 20) (some (.aload 4, 2)) none) (cond (Nat.beq pc 22) (some (.getfield 268, 3)) none))))) (cond (Nat.ble pc 40) (cond (Nat.ble pc 31) (cond (Nat.ble pc 25) (cond (Nat.beq pc 25) (some (.getstatic 252, 3)) none) (cond (Nat.ble pc 28) (cond (Nat.beq pc 28) (some (.if_acmp .ne 16, 3)) none) (cond (Nat.beq pc 31) (some (.aload 4, 2)) none))) (cond (Nat.ble pc 34) (cond (Nat.ble pc 33) (cond (Nat.beq pc 33) (some (.aload_n 3, 1)) none) (cond (Nat.beq pc 34) (some (.invokestatic 274, 3)) none)) (cond (Nat.ble pc 37) (cond (Nat.beq pc 37) (some (.ifCond .eq 7, 3)) none) (cond (Nat.beq pc 40) (some (.iconst 1, 1)) none)))) (cond (Nat.ble pc 45) (cond (Nat.ble pc 41) (cond (Nat.beq pc 41) (some (.goto 4, 3)) none) (cond (Nat.ble pc 44) (cond (Nat.beq pc 44) (some (.iconst 0, 1)) none) (cond (Nat.beq pc 45) (some (.invokestatic 154, 3)) none))) (cond (Nat.ble pc 50) (cond (Nat.ble pc 48) (cond (Nat.beq pc 48) (some (.aload 4, 2)) none) (cond (Nat.beq pc 50) (some (.getstatic 281, 3)) none)) (cond (Nat.ble pc 53) (cond (Nat.beq pc 53) (some (.invokevirtual 258, 3)) none) (cond (Nat.beq pc 56) (some (.ireturn, 1)) none))))))
theorem tkX1_cancel : tkAll cX1_cancel tbX1_cancel := fun pc => (tk_b (tk_b (tk_b (tk_b (tk_l dX1_cancel_0) (tk_b (tk_l dX1_cancel_1) (tk_l dX1_cancel_2))) (tk_b (tk_l dX1_cancel_5) (tk_b (tk_l dX1_cancel_6) (tk_l dX1_cancel_7)))) (tk_b (tk_b (tk_l dX1_cancel_8) (tk_b (tk_l dX1_cancel_11) (tk_l dX1_cancel_13))) (tk_b (tk_b (tk_l dX1_cancel_14) (tk_l dX1_cancel_17)) (tk_b (tk_l dX1_cancel_20) (tk_l dX1_cancel_22))))) (tk_b (tk_b (tk_b (tk_l dX1_cancel_25) (tk_b (tk_l dX1_cancel_28) (tk_l dX1_cancel_31))) (tk_b (tk_b (tk_l dX1_cancel_33) (tk_l dX1_cancel_34)) (tk_b (tk_l dX1_cancel_37) (tk_l dX1_cancel_40)))) (tk_b (tk_b (tk_l dX1_cancel_41) (tk_b (tk_l dX1_cancel_44) (tk_l dX1_cancel_45))) (tk_b (tk_b (tk_l dX1_cancel_48) (tk_l dX1_cancel_50)) (tk_b (tk_l dX1_cancel_53) (tk_l dX1_cancel_56))))))
def tbX1_hangUp (pc : Nat) : Option (Instr × Nat) := (cond (Nat.ble pc 14) (cond (Nat.ble pc 5) (cond (Nat.ble pc 1) (cond (Nat.ble pc 0) (cond (Nat.beq pc 0) (some (.aload_n 0, 1)) none) (cond (Nat.beq pc 1) (some (.iload_n 1, 1)) none)) (cond (Nat.ble pc 2) (cond (Nat.beq pc 2) (some (.invokevirtual 249, 3)) none) (cond (Nat.beq pc 5) (some (.astore_n 2, 1)) none))) (cond (Nat.ble pc 7) (cond (Nat.ble pc 6) (cond (Nat.beq pc 6) (some (.aload_n 2, 1)) none) (cond (Nat.beq pc 7) (some (.getfield 236, 3)) none)) (cond (Nat.ble pc 10) (cond (Nat.beq pc 10) (some (.ifnonnull 7, 3)) none) (cond (Nat.ble pc 13) (cond (Nat.beq pc 13) (some (.iconst 0, 1)) none) (cond (Nat.beq pc 14) (some (.goto 13, 3)) none))))) (cond (Nat.ble pc 24) (cond (Nat.ble pc 18) (cond (Nat.ble pc 17) (cond (Nat.beq pc 17) (some (.aload_n 2, 1)) none) (cond (Nat.beq pc 18) (some (.getfield 236, 3)) none)) (cond (Nat.ble pc 21) (cond (Nat.beq pc 21) (some (.getstatic 281, 3)) none) (cond (Nat.beq pc 24) (some (.invokevirtual 258, 3)) none))) (cond (Nat.ble pc 28) (cond (Nat.ble pc 27) (cond (Nat.beq pc 27) (some (.istore_n 3, 1)) none) (cond (Nat.beq pc 28) (some (.aload_n 2, 1)) none)) (cond (Nat.ble pc 29) (cond (Nat.beq pc 29) (some (.invokevirtual 284, 3)) none) (cond (Nat.ble pc 32) (cond (Nat.beq pc 32) (some (.iload_n 3, 1)) none) (cond (Nat.beq pc 33) (some (.ireturn, 1)) none))))))
theorem tkX1_hangUp : tkAll cX1_hangUp tbX1_hangUp := fun pc => (tk_b (tk_b (tk_b (tk_b (tk_l dX1_hangUp_0) (tk_l dX1_hangUp_1)) (tk_b (tk_l dX1_hangUp_2) (tk_l dX1_hangUp_5))) (tk_b (tk_b (tk_l dX1_hangUp_6) (tk_l dX1_hangUp_7)) (tk_b (tk_l dX1_hangUp_10) (tk_b (tk_l dX1_hangUp_13) (tk_l dX1_hangUp_14))))) (tk_b (tk_b (tk_b (tk_l dX1_hangUp_17) (tk_l dX1_hangUp_18)) (tk_b (tk_l dX1_hangUp_21) (tk_l dX1_hangUp_24))) (tk_b (tk_b (tk_l dX1_hangUp_27) (tk_l dX1_hangUp_28)) (tk_b (tk_l dX1_hangUp_29) (tk_b (tk_l dX1_hangUp_32) (tk_l dX1_hangUp_33))))))
def tbX1_callOf (pc : Nat) : Option (Instr × Nat) := (cond (Nat.ble pc 3) (cond (Nat.ble pc 1) (cond (Nat.ble pc 0) (cond (Nat.beq pc 0) (some (.iload_n 1, 1)) none) (cond (Nat.beq pc 1) (some (.iconst 0, 1)) none)) (cond (Nat.ble pc 2) (cond (Nat.beq pc 2) (some (.iconst 5, 1)) none) (cond (Nat.beq pc 3) (some (.invokestatic 139, 3)) none))) (cond (Nat.ble pc 7) (cond (Nat.ble pc 6) (cond (Nat.beq pc 6) (some (.aload_n 0, 1)) none) (cond (Nat.beq pc 7) (some (.iload_n 1, 1)) none)) (cond (Nat.ble pc 8) (cond (Nat.beq pc 8) (some (.invokevirtual 219, 3)) none) (cond (Nat.beq pc 11) (some (.ireturn, 1)) none))))
theorem tkX1_callOf : tkAll cX1_callOf tbX1_callOf := fun pc => (tk_b (tk_b (tk_b (tk_l dX1_callOf_0) (tk_l dX1_callOf_1)) (tk_b (tk_l dX1_callOf_2) (tk_l dX1_callOf_3))) (tk_b (tk_b (tk_l dX1_callOf_6) (tk_l dX1_callOf_7)) (tk_b (tk_l dX1_callOf_8) (tk_l dX1_callOf_11))))
def tbX1_way (pc : Nat) : Option (Instr × Nat) := (cond (Nat.ble pc 2) (cond (Nat.ble pc 0) (cond (Nat.beq pc 0) (some (.aload_n 0, 1)) none) (cond (Nat.ble pc 1) (cond (Nat.beq pc 1) (some (.iload_n 1, 1)) none) (cond (Nat.beq pc 2) (some (.invokevirtual 249, 3)) none))) (cond (Nat.ble pc 5) (cond (Nat.beq pc 5) (some (.getfield 287, 3)) none) (cond (Nat.ble pc 8) (cond (Nat.beq pc 8) (some (.invokevirtual 146, 3)) none) (cond (Nat.beq pc 11) (some (.ireturn, 1)) none))))
theorem tkX1_way : tkAll cX1_way tbX1_way := fun pc => (tk_b (tk_b (tk_l dX1_way_0) (tk_b (tk_l dX1_way_1) (tk_l dX1_way_2))) (tk_b (tk_l dX1_way_5) (tk_b (tk_l dX1_way_8) (tk_l dX1_way_11))))
def tbX1_cut (pc : Nat) : Option (Instr × Nat) := (cond (Nat.ble pc 40) (cond (Nat.ble pc 17) (cond (Nat.ble pc 4) (cond (Nat.ble pc 1) (cond (Nat.ble pc 0) (cond (Nat.beq pc 0) (some (.aload_n 0, 1)) none) (cond (Nat.beq pc 1) (some (.iload_n 1, 1)) none)) (cond (Nat.ble pc 2) (cond (Nat.beq pc 2) (some (.iload_n 2, 1)) none) (cond (Nat.ble pc 3) (cond (Nat.beq pc 3) (some (.iload_n 3, 1)) none) (cond (Nat.beq pc 4) (some (.invokevirtual 290, 3)) none)))) (cond (Nat.ble pc 9) (cond (Nat.ble pc 7) (cond (Nat.beq pc 7) (some (.astore 4, 2)) none) (cond (Nat.beq pc 9) (some (.aload 4, 2)) none)) (cond (Nat.ble pc 11) (cond (Nat.beq pc 11) (some (.getfield 294, 3)) none) (cond (Nat.ble pc 14) (cond (Nat.beq pc 14) (some (.ifCond .ne 7, 3)) none) (cond (Nat.beq pc 17) (some (.iconst 1, 1)) none))))) (cond (Nat.ble pc 27) (cond (Nat.ble pc 21) (cond (Nat.ble pc 18) (cond (Nat.beq pc 18) (some (.goto 4, 3)) none) (cond (Nat.beq pc 21) (some (.iconst 0, 1)) none)) (cond (Nat.ble pc 22) (cond (Nat.beq pc 22) (some (.invokestatic 154, 3)) none) (cond (Nat.ble pc 25) (cond (Nat.beq pc 25) (some (.aload 4, 2)) none) (cond (Nat.beq pc 27) (some (.iconst 1, 1)) none)))) (cond (Nat.ble pc 33) (cond (Nat.ble pc 28) (cond (Nat.beq pc 28) (some (.putfield 294, 3)) none) (cond (Nat.ble pc 31) (cond (Nat.beq pc 31) (some (.aload 4, 2)) none) (cond (Nat.beq pc 33) (some (.getfield 297, 3)) none))) (cond (Nat.ble pc 36) (cond (Nat.beq pc 36) (some (.astore 5, 2)) none) (cond (Nat.ble pc 38) (cond (Nat.beq pc 38) (some (.aload 5, 2)) none) (cond (Nat.beq pc 40) (some (.ifnonnull 5, 3)) none)))))) (cond (Nat.ble pc 66) (cond (Nat.ble pc 50) (cond (Nat.ble pc 44) (cond (Nat.ble pc 43) (cond (Nat.beq pc 43) (some (.iconst (-1), 1)) none) (cond (Nat.beq pc 44) (some (.ireturn, 1)) none)) (cond (Nat.ble pc 45) (cond (Nat.beq pc 45) (some (.aload 5, 2)) none) (cond (Nat.ble pc 47) (cond (Nat.beq pc 47) (some (.getfield 236, 3)) none) (cond (Nat.beq pc 50) (some (.ifnull 31, 3)) none)))) (cond (Nat.ble pc 58) (cond (Nat.ble pc 53) (cond (Nat.beq pc 53) (some (.aload 5, 2)) none) (cond (Nat.ble pc 55) (cond (Nat.beq pc 55) (some (.getfield 236, 3)) none) (cond (Nat.beq pc 58) (some (.getstatic 271, 3)) none))) (cond (Nat.ble pc 61) (cond (Nat.beq pc 61) (some (.invokevirtual 258, 3)) none) (cond (Nat.ble pc 64) (cond (Nat.beq pc 64) (some (.istore 6, 2)) none) (cond (Nat.beq pc 66) (some (.aload 5, 2)) none))))) (cond (Nat.ble pc 77) (cond (Nat.ble pc 71) (cond (Nat.ble pc 68) (cond (Nat.beq pc 68) (some (.getfield 236, 3)) none) (cond (Nat.beq pc 71) (some (.aload_n 0, 1)) none)) (cond (Nat.ble pc 72) (cond (Nat.beq pc 72) (some (.getfield 301, 3)) none) (cond (Nat.ble pc 75) (cond (Nat.beq pc 75) (some (.bipush 10, 2)) none) (cond (Nat.beq pc 77) (some (.iadd, 1)) none)))) (cond (Nat.ble pc 83) (cond (Nat.ble pc 78) (cond (Nat.beq pc 78) (some (.putfield 304, 3)) none) (cond (Nat.ble pc 81) (cond (Nat.beq pc 81) (some (.aload 5, 2)) none) (cond (Nat.beq pc 83) (some (.invokevirtual 284, 3)) none))) (cond (Nat.ble pc 86) (cond (Nat.beq pc 86) (some (.aload 5, 2)) none) (cond (Nat.ble pc 88) (cond (Nat.beq pc 88) (some (.getfield 218, 3)) none) (cond (Nat.beq pc 91) (some (.ireturn, 1)) none)))))))
theorem tkX1_cut : tkAll cX1_cut tbX1_cut := fun pc => (tk_b (tk_b (tk_b (tk_b (tk_b (tk_l dX1_cut_0) (tk_l dX1_cut_1)) (tk_b (tk_l dX1_cut_2) (tk_b (tk_l dX1_cut_3) (tk_l dX1_cut_4)))) (tk_b (tk_b (tk_l dX1_cut_7) (tk_l dX1_cut_9)) (tk_b (tk_l dX1_cut_11) (tk_b (tk_l dX1_cut_14) (tk_l dX1_cut_17))))) (tk_b (tk_b (tk_b (tk_l dX1_cut_18) (tk_l dX1_cut_21)) (tk_b (tk_l dX1_cut_22) (tk_b (tk_l dX1_cut_25) (tk_l dX1_cut_27)))) (tk_b (tk_b (tk_l dX1_cut_28) (tk_b (tk_l dX1_cut_31) (tk_l dX1_cut_33))) (tk_b (tk_l dX1_cut_36) (tk_b (tk_l dX1_cut_38) (tk_l dX1_cut_40)))))) (tk_b (tk_b (tk_b (tk_b (tk_l dX1_cut_43) (tk_l dX1_cut_44)) (tk_b (tk_l dX1_cut_45) (tk_b (tk_l dX1_cut_47) (tk_l dX1_cut_50)))) (tk_b (tk_b (tk_l dX1_cut_53) (tk_b (tk_l dX1_cut_55) (tk_l dX1_cut_58))) (tk_b (tk_l dX1_cut_61) (tk_b (tk_l dX1_cut_64) (tk_l dX1_cut_66))))) (tk_b (tk_b (tk_b (tk_l dX1_cut_68) (tk_l dX1_cut_71)) (tk_b (tk_l dX1_cut_72) (tk_b (tk_l dX1_cut_75) (tk_l dX1_cut_77)))) (tk_b (tk_b (tk_l dX1_cut_78) (tk_b (tk_l dX1_cut_81) (tk_l dX1_cut_83))) (tk_b (tk_l dX1_cut_86) (tk_b (tk_l dX1_cut_88) (tk_l dX1_cut_91)))))))
def tbX1_trunkOf (pc : Nat) : Option (Instr × Nat) := (cond (Nat.ble pc 13) (cond (Nat.ble pc 6) (cond (Nat.ble pc 1) (cond (Nat.ble pc 0) (cond (Nat.beq pc 0) (some (.iload_n 1, 1)) none) (cond (Nat.beq pc 1) (some (.iload_n 2, 1)) none)) (cond (Nat.ble pc 2) (cond (Nat.beq pc 2) (some (.iconst 3, 1)) none) (cond (Nat.ble pc 3) (cond (Nat.beq pc 3) (some (.invokestatic 143, 3)) none) (cond (Nat.beq pc 6) (some (.iload_n 3, 1)) none)))) (cond (Nat.ble pc 8) (cond (Nat.ble pc 7) (cond (Nat.beq pc 7) (some (.iconst 0, 1)) none) (cond (Nat.beq pc 8) (some (.iconst 1, 1)) none)) (cond (Nat.ble pc 9) (cond (Nat.beq pc 9) (some (.invokestatic 139, 3)) none) (cond (Nat.ble pc 12) (cond (Nat.beq pc 12) (some (.aload_n 0, 1)) none) (cond (Nat.beq pc 13) (some (.getfield 27, 3)) none))))) (cond (Nat.ble pc 22) (cond (Nat.ble pc 19) (cond (Nat.ble pc 16) (cond (Nat.beq pc 16) (some (.new 54, 3)) none) (cond (Nat.beq pc 19) (some (.dup, 1)) none)) (cond (Nat.ble pc 20) (cond (Nat.beq pc 20) (some (.iload_n 1, 1)) none) (cond (Nat.ble pc 21) (cond (Nat.beq pc 21) (some (.iload_n 2, 1)) none) (cond (Nat.beq pc 22) (some (.invokespecial 56, 3)) none)))) (cond (Nat.ble pc 28) (cond (Nat.ble pc 25) (cond (Nat.beq pc 25) (some (.invokevirtual 97, 3)) none) (cond (Nat.beq pc 28) (some (.checkcast 66, 3)) none)) (cond (Nat.ble pc 31) (cond (Nat.beq pc 31) (some (.iload_n 3, 1)) none) (cond (Nat.ble pc 32) (cond (Nat.beq pc 32) (some (.aaload, 1)) none) (cond (Nat.beq pc 33) (some (.areturn, 1)) none))))))
theorem tkX1_trunkOf : tkAll cX1_trunkOf tbX1_trunkOf := fun pc => (tk_b (tk_b (tk_b (tk_b (tk_l dX1_trunkOf_0) (tk_l dX1_trunkOf_1)) (tk_b (tk_l dX1_trunkOf_2) (tk_b (tk_l dX1_trunkOf_3) (tk_l dX1_trunkOf_6)))) (tk_b (tk_b (tk_l dX1_trunkOf_7) (tk_l dX1_trunkOf_8)) (tk_b (tk_l dX1_trunkOf_9) (tk_b (tk_l dX1_trunkOf_12) (tk_l dX1_trunkOf_13))))) (tk_b (tk_b (tk_b (tk_l dX1_trunkOf_16) (tk_l dX1_trunkOf_19)) (tk_b (tk_l dX1_trunkOf_20) (tk_b (tk_l dX1_trunkOf_21) (tk_l dX1_trunkOf_22)))) (tk_b (tk_b (tk_l dX1_trunkOf_25) (tk_l dX1_trunkOf_28)) (tk_b (tk_l dX1_trunkOf_31) (tk_b (tk_l dX1_trunkOf_32) (tk_l dX1_trunkOf_33))))))
def tbX1_mend (pc : Nat) : Option (Instr × Nat) := (cond (Nat.ble pc 7) (cond (Nat.ble pc 2) (cond (Nat.ble pc 0) (cond (Nat.beq pc 0) (some (.aload_n 0, 1)) none) (cond (Nat.ble pc 1) (cond (Nat.beq pc 1) (some (.iload_n 1, 1)) none) (cond (Nat.beq pc 2) (some (.iload_n 2, 1)) none))) (cond (Nat.ble pc 3) (cond (Nat.beq pc 3) (some (.iload_n 3, 1)) none) (cond (Nat.ble pc 4) (cond (Nat.beq pc 4) (some (.invokevirtual 290, 3)) none) (cond (Nat.beq pc 7) (some (.astore 4, 2)) none)))) (cond (Nat.ble pc 14) (cond (Nat.ble pc 9) (cond (Nat.beq pc 9) (some (.aload 4, 2)) none) (cond (Nat.ble pc 11) (cond (Nat.beq pc 11) (some (.getfield 294, 3)) none) (cond (Nat.beq pc 14) (some (.invokestatic 154, 3)) none))) (cond (Nat.ble pc 19) (cond (Nat.ble pc 17) (cond (Nat.beq pc 17) (some (.aload 4, 2)) none) (cond (Nat.beq pc 19) (some (.iconst 0, 1)) none)) (cond (Nat.ble pc 20) (cond (Nat.beq pc 20) (some (.putfield 294, 3)) none) (cond (Nat.beq pc 23) (some (.return_, 1)) none)))))
theorem tkX1_mend : tkAll cX1_mend tbX1_mend := fun pc => (tk_b (tk_b (tk_b (tk_l dX1_mend_0) (tk_b (tk_l dX1_mend_1) (tk_l dX1_mend_2))) (tk_b (tk_l dX1_mend_3) (tk_b (tk_l dX1_mend_4) (tk_l dX1_mend_7)))) (tk_b (tk_b (tk_l dX1_mend_9) (tk_b (tk_l dX1_mend_11) (tk_l dX1_mend_14))) (tk_b (tk_b (tk_l dX1_mend_17) (tk_l dX1_mend_19)) (tk_b (tk_l dX1_mend_20) (tk_l dX1_mend_23)))))
def tbX1_trunk (pc : Nat) : Option (Instr × Nat) := (cond (Nat.ble pc 17) (cond (Nat.ble pc 4) (cond (Nat.ble pc 1) (cond (Nat.ble pc 0) (cond (Nat.beq pc 0) (some (.aload_n 0, 1)) none) (cond (Nat.beq pc 1) (some (.iload_n 1, 1)) none)) (cond (Nat.ble pc 2) (cond (Nat.beq pc 2) (some (.iload_n 2, 1)) none) (cond (Nat.ble pc 3) (cond (Nat.beq pc 3) (some (.iload_n 3, 1)) none) (cond (Nat.beq pc 4) (some (.invokevirtual 290, 3)) none)))) (cond (Nat.ble pc 9) (cond (Nat.ble pc 7) (cond (Nat.beq pc 7) (some (.astore 4, 2)) none) (cond (Nat.beq pc 9) (some (.aload 4, 2)) none)) (cond (Nat.ble pc 11) (cond (Nat.beq pc 11) (some (.getfield 294, 3)) none) (cond (Nat.ble pc 14) (cond (Nat.beq pc 14) (some (.ifCond .eq 8, 3)) none) (cond (Nat.beq pc 17) (some (.bipush (-2), 2)) none))))) (cond (Nat.ble pc 30) (cond (Nat.ble pc 22) (cond (Nat.ble pc 19) (cond (Nat.beq pc 19) (some (.goto 23, 3)) none) (cond (Nat.beq pc 22) (some (.aload 4, 2)) none)) (cond (Nat.ble pc 24) (cond (Nat.beq pc 24) (some (.getfield 297, 3)) none) (cond (Nat.ble pc 27) (cond (Nat.beq pc 27) (some (.ifnonnull 7, 3)) none) (cond (Nat.beq pc 30) (some (.iconst (-1), 1)) none)))) (cond (Nat.ble pc 34) (cond (Nat.ble pc 31) (cond (Nat.beq pc 31) (some (.goto 11, 3)) none) (cond (Nat.beq pc 34) (some (.aload 4, 2)) none)) (cond (Nat.ble pc 36) (cond (Nat.beq pc 36) (some (.getfield 297, 3)) none) (cond (Nat.ble pc 39) (cond (Nat.beq pc 39) (some (.getfield 218, 3)) none) (cond (Nat.beq pc 42) (some (.ireturn, 1)) none))))))
theorem tkX1_trunk : tkAll cX1_trunk tbX1_trunk := fun pc => (tk_b (tk_b (tk_b (tk_b (tk_l dX1_trunk_0) (tk_l dX1_trunk_1)) (tk_b (tk_l dX1_trunk_2) (tk_b (tk_l dX1_trunk_3) (tk_l dX1_trunk_4)))) (tk_b (tk_b (tk_l dX1_trunk_7) (tk_l dX1_trunk_9)) (tk_b (tk_l dX1_trunk_11) (tk_b (tk_l dX1_trunk_14) (tk_l dX1_trunk_17))))) (tk_b (tk_b (tk_b (tk_l dX1_trunk_19) (tk_l dX1_trunk_22)) (tk_b (tk_l dX1_trunk_24) (tk_b (tk_l dX1_trunk_27) (tk_l dX1_trunk_30)))) (tk_b (tk_b (tk_l dX1_trunk_31) (tk_l dX1_trunk_34)) (tk_b (tk_l dX1_trunk_36) (tk_b (tk_l dX1_trunk_39) (tk_l dX1_trunk_42))))))
def tbX1_setLines (pc : Nat) : Option (Instr × Nat) := (cond (Nat.ble pc 21) (cond (Nat.ble pc 8) (cond (Nat.ble pc 2) (cond (Nat.ble pc 0) (cond (Nat.beq pc 0) (some (.iload_n 1, 1)) none) (cond (Nat.ble pc 1) (cond (Nat.beq pc 1) (some (.iconst 0, 1)) none) (cond (Nat.beq pc 2) (some (.iconst 2, 1)) none))) (cond (Nat.ble pc 6) (cond (Nat.ble pc 3) (cond (Nat.beq pc 3) (some (.invokestatic 139, 3)) none) (cond (Nat.beq pc 6) (some (.iload_n 2, 1)) none)) (cond (Nat.ble pc 7) (cond (Nat.beq pc 7) (some (.iconst 0, 1)) none) (cond (Nat.beq pc 8) (some (.iconst 3, 1)) none)))) (cond (Nat.ble pc 13) (cond (Nat.ble pc 9) (cond (Nat.beq pc 9) (some (.invokestatic 139, 3)) none) (cond (Nat.ble pc 12) (cond (Nat.beq pc 12) (some (.aload_n 0, 1)) none) (cond (Nat.beq pc 13) (some (.iload_n 1, 1)) none))) (cond (Nat.ble pc 17) (cond (Nat.ble pc 14) (cond (Nat.beq pc 14) (some (.invokevirtual 223, 3)) none) (cond (Nat.beq pc 17) (some (.iload_n 2, 1)) none)) (cond (Nat.ble pc 18) (cond (Nat.beq pc 18) (some (.if_icmp .gt 7, 3)) none) (cond (Nat.beq pc 21) (some (.iconst 1, 1)) none))))) (cond (Nat.ble pc 34) (cond (Nat.ble pc 26) (cond (Nat.ble pc 22) (cond (Nat.beq pc 22) (some (.goto 4, 3)) none) (cond (Nat.ble pc 25) (cond (Nat.beq pc 25) (some (.iconst 0, 1)) none) (cond (Nat.beq pc 26) (some (.invokestatic 154, 3)) none))) (cond (Nat.ble pc 30) (cond (Nat.ble pc 29) (cond (Nat.beq pc 29) (some (.aload_n 0, 1)) none) (cond (Nat.beq pc 30) (some (.getfield 31, 3)) none)) (cond (Nat.ble pc 33) (cond (Nat.beq pc 33) (some (.iload_n 1, 1)) none) (cond (Nat.beq pc 34) (some (.iaload, 1)) none)))) (cond (Nat.ble pc 40) (cond (Nat.ble pc 36) (cond (Nat.ble pc 35) (cond (Nat.beq pc 35) (some (.istore_n 3, 1)) none) (cond (Nat.beq pc 36) (some (.aload_n 0, 1)) none)) (cond (Nat.ble pc 37) (cond (Nat.beq pc 37) (some (.getfield 31, 3)) none) (cond (Nat.beq pc 40) (some (.iload_n 1, 1)) none))) (cond (Nat.ble pc 42) (cond (Nat.ble pc 41) (cond (Nat.beq pc 41) (some (.iload_n 2, 1)) none) (cond (Nat.beq pc 42) (some (.iastore, 1)) none)) (cond (Nat.ble pc 43) (cond (Nat.beq pc 43) (some (.iload_n 3, 1)) none) (cond (Nat.beq pc 44) (some (.ireturn, 1)) none))))))
theorem tkX1_setLines : tkAll cX1_setLines tbX1_setLines := fun pc => (tk_b (tk_b (tk_b (tk_b (tk_l dX1_setLines_0) (tk_b (tk_l dX1_setLines_1) (tk_l dX1_setLines_2))) (tk_b (tk_b (tk_l dX1_setLines_3) (tk_l dX1_setLines_6)) (tk_b (tk_l dX1_setLines_7) (tk_l dX1_setLines_8)))) (tk_b (tk_b (tk_l dX1_setLines_9) (tk_b (tk_l dX1_setLines_12) (tk_l dX1_setLines_13))) (tk_b (tk_b (tk_l dX1_setLines_14) (tk_l dX1_setLines_17)) (tk_b (tk_l dX1_setLines_18) (tk_l dX1_setLines_21))))) (tk_b (tk_b (tk_b (tk_l dX1_setLines_22) (tk_b (tk_l dX1_setLines_25) (tk_l dX1_setLines_26))) (tk_b (tk_b (tk_l dX1_setLines_29) (tk_l dX1_setLines_30)) (tk_b (tk_l dX1_setLines_33) (tk_l dX1_setLines_34)))) (tk_b (tk_b (tk_b (tk_l dX1_setLines_35) (tk_l dX1_setLines_36)) (tk_b (tk_l dX1_setLines_37) (tk_l dX1_setLines_40))) (tk_b (tk_b (tk_l dX1_setLines_41) (tk_l dX1_setLines_42)) (tk_b (tk_l dX1_setLines_43) (tk_l dX1_setLines_44))))))
def tbX1_pass (pc : Nat) : Option (Instr × Nat) := (cond (Nat.ble pc 43) (cond (Nat.ble pc 20) (cond (Nat.ble pc 8) (cond (Nat.ble pc 2) (cond (Nat.ble pc 0) (cond (Nat.beq pc 0) (some (.iload_n 1, 1)) none) (cond (Nat.ble pc 1) (cond (Nat.beq pc 1) (some (.iconst 1, 1)) none) (cond (Nat.beq pc 2) (some (.bipush 100, 2)) none))) (cond (Nat.ble pc 4) (cond (Nat.beq pc 4) (some (.invokestatic 139, 3)) none) (cond (Nat.ble pc 7) (cond (Nat.beq pc 7) (some (.aload_n 0, 1)) none) (cond (Nat.beq pc 8) (some (.getfield 301, 3)) none)))) (cond (Nat.ble pc 13) (cond (Nat.ble pc 11) (cond (Nat.beq pc 11) (some (.iload_n 1, 1)) none) (cond (Nat.ble pc 12) (cond (Nat.beq pc 12) (some (.iadd, 1)) none) (cond (Nat.beq pc 13) (some (.sipush 10000, 3)) none))) (cond (Nat.ble pc 16) (cond (Nat.beq pc 16) (some (.if_icmp .gt 7, 3)) none) (cond (Nat.ble pc 19) (cond (Nat.beq pc 19) (some (.iconst 1, 1)) none) (cond (Nat.beq pc 20) (some (.goto 4, 3)) none))))) (cond (Nat.ble pc 32) (cond (Nat.ble pc 27) (cond (Nat.ble pc 23) (cond (Nat.beq pc 23) (some (.iconst 0, 1)) none) (cond (Nat.ble pc 24) (cond (Nat.beq pc 24) (some (.invokestatic 154, 3)) none) (cond (Nat.beq pc 27) (some (.aload_n 0, 1)) none))) (cond (Nat.ble pc 28) (cond (Nat.beq pc 28) (some (.dup, 1)) none) (cond (Nat.ble pc 29) (cond (Nat.beq pc 29) (some (.getfield 301, 3)) none) (cond (Nat.beq pc 32) (some (.iload_n 1, 1)) none)))) (cond (Nat.ble pc 37) (cond (Nat.ble pc 33) (cond (Nat.beq pc 33) (some (.iadd, 1)) none) (cond (Nat.ble pc 34) (cond (Nat.beq pc 34) (some (.putfield 301, 3)) none) (cond (Nat.beq pc 37) (some (.iconst 0, 1)) none))) (cond (Nat.ble pc 39) (cond (Nat.ble pc 38) (cond (Nat.beq pc 38) (some (.istore_n 2, 1)) none) (cond (Nat.beq pc 39) (some (.aload_n 0, 1)) none)) (cond (Nat.ble pc 40) (cond (Nat.beq pc 40) (some (.getfield 38, 3)) none) (cond (Nat.beq pc 43) (some (.invokevirtual 108, 3)) none)))))) (cond (Nat.ble pc 75) (cond (Nat.ble pc 57) (cond (Nat.ble pc 48) (cond (Nat.ble pc 46) (cond (Nat.beq pc 46) (some (.astore_n 3, 1)) none) (cond (Nat.ble pc 47) (cond (Nat.beq pc 47) (some (.aload_n 3, 1)) none) (cond (Nat.beq pc 48) (some (.invokeinterface 112 1, 5)) none))) (cond (Nat.ble pc 53) (cond (Nat.beq pc 53) (some (.ifCond .eq 53, 3)) none) (cond (Nat.ble pc 56) (cond (Nat.beq pc 56) (some (.aload_n 3, 1)) none) (cond (Nat.beq pc 57) (some (.invokeinterface 117 1, 5)) none)))) (cond (Nat.ble pc 67) (cond (Nat.ble pc 62) (cond (Nat.beq pc 62) (some (.checkcast 158, 3)) none) (cond (Nat.ble pc 65) (cond (Nat.beq pc 65) (some (.astore 4, 2)) none) (cond (Nat.beq pc 67) (some (.aload 4, 2)) none))) (cond (Nat.ble pc 69) (cond (Nat.beq pc 69) (some (.getfield 268, 3)) none) (cond (Nat.ble pc 72) (cond (Nat.beq pc 72) (some (.getstatic 271, 3)) none) (cond (Nat.beq pc 75) (some (.if_acmp .ne 28, 3)) none))))) (cond (Nat.ble pc 90) (cond (Nat.ble pc 83) (cond (Nat.ble pc 78) (cond (Nat.beq pc 78) (some (.aload 4, 2)) none) (cond (Nat.ble pc 80) (cond (Nat.beq pc 80) (some (.getfield 304, 3)) none) (cond (Nat.beq pc 83) (some (.aload_n 0, 1)) none))) (cond (Nat.ble pc 84) (cond (Nat.beq pc 84) (some (.getfield 301, 3)) none) (cond (Nat.ble pc 87) (cond (Nat.beq pc 87) (some (.if_icmp .gt 16, 3)) none) (cond (Nat.beq pc 90) (some (.aload 4, 2)) none)))) (cond (Nat.ble pc 98) (cond (Nat.ble pc 92) (cond (Nat.beq pc 92) (some (.getstatic 281, 3)) none) (cond (Nat.ble pc 95) (cond (Nat.beq pc 95) (some (.invokevirtual 258, 3)) none) (cond (Nat.beq pc 98) (some (.istore 5, 2)) none))) (cond (Nat.ble pc 103) (cond (Nat.ble pc 100) (cond (Nat.beq pc 100) (some (.iinc 2 1, 3)) none) (cond (Nat.beq pc 103) (some (.goto (-56), 3)) none)) (cond (Nat.ble pc 106) (cond (Nat.beq pc 106) (some (.iload_n 2, 1)) none) (cond (Nat.beq pc 107) (some (.ireturn, 1)) none)))))))
theorem tkX1_pass : tkAll cX1_pass tbX1_pass := fun pc => (tk_b (tk_b (tk_b (tk_b (tk_b (tk_l dX1_pass_0) (tk_b (tk_l dX1_pass_1) (tk_l dX1_pass_2))) (tk_b (tk_l dX1_pass_4) (tk_b (tk_l dX1_pass_7) (tk_l dX1_pass_8)))) (tk_b (tk_b (tk_l dX1_pass_11) (tk_b (tk_l dX1_pass_12) (tk_l dX1_pass_13))) (tk_b (tk_l dX1_pass_16) (tk_b (tk_l dX1_pass_19) (tk_l dX1_pass_20))))) (tk_b (tk_b (tk_b (tk_l dX1_pass_23) (tk_b (tk_l dX1_pass_24) (tk_l dX1_pass_27))) (tk_b (tk_l dX1_pass_28) (tk_b (tk_l dX1_pass_29) (tk_l dX1_pass_32)))) (tk_b (tk_b (tk_l dX1_pass_33) (tk_b (tk_l dX1_pass_34) (tk_l dX1_pass_37))) (tk_b (tk_b (tk_l dX1_pass_38) (tk_l dX1_pass_39)) (tk_b (tk_l dX1_pass_40) (tk_l dX1_pass_43)))))) (tk_b (tk_b (tk_b (tk_b (tk_l dX1_pass_46) (tk_b (tk_l dX1_pass_47) (tk_l dX1_pass_48))) (tk_b (tk_l dX1_pass_53) (tk_b (tk_l dX1_pass_56) (tk_l dX1_pass_57)))) (tk_b (tk_b (tk_l dX1_pass_62) (tk_b (tk_l dX1_pass_65) (tk_l dX1_pass_67))) (tk_b (tk_l dX1_pass_69) (tk_b (tk_l dX1_pass_72) (tk_l dX1_pass_75))))) (tk_b (tk_b (tk_b (tk_l dX1_pass_78) (tk_b (tk_l dX1_pass_80) (tk_l dX1_pass_83))) (tk_b (tk_l dX1_pass_84) (tk_b (tk_l dX1_pass_87) (tk_l dX1_pass_90)))) (tk_b (tk_b (tk_l dX1_pass_92) (tk_b (tk_l dX1_pass_95) (tk_l dX1_pass_98))) (tk_b (tk_b (tk_l dX1_pass_100) (tk_l dX1_pass_103)) (tk_b (tk_l dX1_pass_106) (tk_l dX1_pass_107)))))))
def tbX1_state (pc : Nat) : Option (Instr × Nat) := (cond (Nat.ble pc 2) (cond (Nat.ble pc 0) (cond (Nat.beq pc 0) (some (.aload_n 0, 1)) none) (cond (Nat.ble pc 1) (cond (Nat.beq pc 1) (some (.iload_n 1, 1)) none) (cond (Nat.beq pc 2) (some (.invokevirtual 264, 3)) none))) (cond (Nat.ble pc 5) (cond (Nat.beq pc 5) (some (.getfield 268, 3)) none) (cond (Nat.ble pc 8) (cond (Nat.beq pc 8) (some (.invokevirtual 307, 3)) none) (cond (Nat.beq pc 11) (some (.ireturn, 1)) none))))
theorem tkX1_state : tkAll cX1_state tbX1_state := fun pc => (tk_b (tk_b (tk_l dX1_state_0) (tk_b (tk_l dX1_state_1) (tk_l dX1_state_2))) (tk_b (tk_l dX1_state_5) (tk_b (tk_l dX1_state_8) (tk_l dX1_state_11))))
def tbX1_wagons (pc : Nat) : Option (Instr × Nat) := (cond (Nat.ble pc 2) (cond (Nat.ble pc 0) (cond (Nat.beq pc 0) (some (.aload_n 0, 1)) none) (cond (Nat.ble pc 1) (cond (Nat.beq pc 1) (some (.iload_n 1, 1)) none) (cond (Nat.beq pc 2) (some (.invokevirtual 264, 3)) none))) (cond (Nat.ble pc 5) (cond (Nat.beq pc 5) (some (.getfield 246, 3)) none) (cond (Nat.ble pc 8) (cond (Nat.beq pc 8) (some (.invokevirtual 146, 3)) none) (cond (Nat.beq pc 11) (some (.ireturn, 1)) none))))
theorem tkX1_wagons : tkAll cX1_wagons tbX1_wagons := fun pc => (tk_b (tk_b (tk_l dX1_wagons_0) (tk_b (tk_l dX1_wagons_1) (tk_l dX1_wagons_2))) (tk_b (tk_l dX1_wagons_5) (tk_b (tk_l dX1_wagons_8) (tk_l dX1_wagons_11))))
def tbX1_wagonOf (pc : Nat) : Option (Instr × Nat) := (cond (Nat.ble pc 11) (cond (Nat.ble pc 5) (cond (Nat.ble pc 1) (cond (Nat.ble pc 0) (cond (Nat.beq pc 0) (some (.aload_n 0, 1)) none) (cond (Nat.beq pc 1) (some (.iload_n 1, 1)) none)) (cond (Nat.ble pc 2) (cond (Nat.beq pc 2) (some (.invokevirtual 264, 3)) none) (cond (Nat.beq pc 5) (some (.astore_n 3, 1)) none))) (cond (Nat.ble pc 7) (cond (Nat.ble pc 6) (cond (Nat.beq pc 6) (some (.iload_n 2, 1)) none) (cond (Nat.beq pc 7) (some (.aload_n 3, 1)) none)) (cond (Nat.ble pc 8) (cond (Nat.beq pc 8) (some (.getfield 246, 3)) none) (cond (Nat.beq pc 11) (some (.invokevirtual 146, 3)) none)))) (cond (Nat.ble pc 21) (cond (Nat.ble pc 17) (cond (Nat.ble pc 14) (cond (Nat.beq pc 14) (some (.invokestatic 147, 3)) none) (cond (Nat.beq pc 17) (some (.aload_n 3, 1)) none)) (cond (Nat.ble pc 18) (cond (Nat.beq pc 18) (some (.getfield 246, 3)) none) (cond (Nat.beq pc 21) (some (.iload_n 2, 1)) none))) (cond (Nat.ble pc 25) (cond (Nat.ble pc 22) (cond (Nat.beq pc 22) (some (.invokevirtual 74, 3)) none) (cond (Nat.beq pc 25) (some (.checkcast 69, 3)) none)) (cond (Nat.ble pc 28) (cond (Nat.beq pc 28) (some (.getfield 170, 3)) none) (cond (Nat.beq pc 31) (some (.ireturn, 1)) none)))))
theorem tkX1_wagonOf : tkAll cX1_wagonOf tbX1_wagonOf := fun pc => (tk_b (tk_b (tk_b (tk_b (tk_l dX1_wagonOf_0) (tk_l dX1_wagonOf_1)) (tk_b (tk_l dX1_wagonOf_2) (tk_l dX1_wagonOf_5))) (tk_b (tk_b (tk_l dX1_wagonOf_6) (tk_l dX1_wagonOf_7)) (tk_b (tk_l dX1_wagonOf_8) (tk_l dX1_wagonOf_11)))) (tk_b (tk_b (tk_b (tk_l dX1_wagonOf_14) (tk_l dX1_wagonOf_17)) (tk_b (tk_l dX1_wagonOf_18) (tk_l dX1_wagonOf_21))) (tk_b (tk_b (tk_l dX1_wagonOf_22) (tk_l dX1_wagonOf_25)) (tk_b (tk_l dX1_wagonOf_28) (tk_l dX1_wagonOf_31)))))
def tbX1_lapses (pc : Nat) : Option (Instr × Nat) := (cond (Nat.ble pc 16) (cond (Nat.ble pc 5) (cond (Nat.ble pc 1) (cond (Nat.ble pc 0) (cond (Nat.beq pc 0) (some (.aload_n 0, 1)) none) (cond (Nat.beq pc 1) (some (.iload_n 1, 1)) none)) (cond (Nat.ble pc 2) (cond (Nat.beq pc 2) (some (.invokevirtual 264, 3)) none) (cond (Nat.beq pc 5) (some (.astore_n 2, 1)) none))) (cond (Nat.ble pc 7) (cond (Nat.ble pc 6) (cond (Nat.beq pc 6) (some (.aload_n 2, 1)) none) (cond (Nat.beq pc 7) (some (.getfield 268, 3)) none)) (cond (Nat.ble pc 10) (cond (Nat.beq pc 10) (some (.getstatic 271, 3)) none) (cond (Nat.ble pc 13) (cond (Nat.beq pc 13) (some (.if_acmp .ne 7, 3)) none) (cond (Nat.beq pc 16) (some (.iconst 1, 1)) none))))) (cond (Nat.ble pc 24) (cond (Nat.ble pc 20) (cond (Nat.ble pc 17) (cond (Nat.beq pc 17) (some (.goto 4, 3)) none) (cond (Nat.beq pc 20) (some (.iconst 0, 1)) none)) (cond (Nat.ble pc 21) (cond (Nat.beq pc 21) (some (.invokestatic 154, 3)) none) (cond (Nat.beq pc 24) (some (.aload_n 2, 1)) none))) (cond (Nat.ble pc 28) (cond (Nat.ble pc 25) (cond (Nat.beq pc 25) (some (.getfield 304, 3)) none) (cond (Nat.beq pc 28) (some (.aload_n 0, 1)) none)) (cond (Nat.ble pc 29) (cond (Nat.beq pc 29) (some (.getfield 301, 3)) none) (cond (Nat.ble pc 32) (cond (Nat.beq pc 32) (some (.isub, 1)) none) (cond (Nat.beq pc 33) (some (.ireturn, 1)) none))))))
theorem tkX1_lapses : tkAll cX1_lapses tbX1_lapses := fun pc => (tk_b (tk_b (tk_b (tk_b (tk_l dX1_lapses_0) (tk_l dX1_lapses_1)) (tk_b (tk_l dX1_lapses_2) (tk_l dX1_lapses_5))) (tk_b (tk_b (tk_l dX1_lapses_6) (tk_l dX1_lapses_7)) (tk_b (tk_l dX1_lapses_10) (tk_b (tk_l dX1_lapses_13) (tk_l dX1_lapses_16))))) (tk_b (tk_b (tk_b (tk_l dX1_lapses_17) (tk_l dX1_lapses_20)) (tk_b (tk_l dX1_lapses_21) (tk_l dX1_lapses_24))) (tk_b (tk_b (tk_l dX1_lapses_25) (tk_l dX1_lapses_28)) (tk_b (tk_l dX1_lapses_29) (tk_b (tk_l dX1_lapses_32) (tk_l dX1_lapses_33))))))
def tbX1_depart (pc : Nat) : Option (Instr × Nat) := (cond (Nat.ble pc 120) (cond (Nat.ble pc 50) (cond (Nat.ble pc 19) (cond (Nat.ble pc 8) (cond (Nat.ble pc 2) (cond (Nat.ble pc 0) (cond (Nat.beq pc 0) (some (.iload_n 1, 1)) none) (cond (Nat.ble pc 1) (cond (Nat.beq pc 1) (some (.iload_n 2, 1)) none) (cond (Nat.beq pc 2) (some (.invokestatic 160, 3)) none))) (cond (Nat.ble pc 5) (cond (Nat.beq pc 5) (some (.istore 4, 2)) none) (cond (Nat.ble pc 7) (cond (Nat.beq pc 7) (some (.iload_n 1, 1)) none) (cond (Nat.beq pc 8) (some (.iload_n 3, 1)) none)))) (cond (Nat.ble pc 13) (cond (Nat.ble pc 9) (cond (Nat.beq pc 9) (some (.iconst 3, 1)) none) (cond (Nat.ble pc 10) (cond (Nat.beq pc 10) (some (.invokestatic 143, 3)) none) (cond (Nat.beq pc 13) (some (.aload_n 0, 1)) none))) (cond (Nat.ble pc 14) (cond (Nat.beq pc 14) (some (.getfield 10, 3)) none) (cond (Nat.ble pc 17) (cond (Nat.beq pc 17) (some (.iload 4, 2)) none) (cond (Nat.beq pc 19) (some (.invokevirtual 74, 3)) none))))) (cond (Nat.ble pc 35) (cond (Nat.ble pc 27) (cond (Nat.ble pc 22) (cond (Nat.beq pc 22) (some (.checkcast 47, 3)) none) (cond (Nat.ble pc 25) (cond (Nat.beq pc 25) (some (.astore 5, 2)) none) (cond (Nat.beq pc 27) (some (.aload 5, 2)) none))) (cond (Nat.ble pc 29) (cond (Nat.beq pc 29) (some (.invokevirtual 192, 3)) none) (cond (Nat.ble pc 32) (cond (Nat.beq pc 32) (some (.ifCond .ne 7, 3)) none) (cond (Nat.beq pc 35) (some (.iconst 1, 1)) none)))) (cond (Nat.ble pc 40) (cond (Nat.ble pc 36) (cond (Nat.beq pc 36) (some (.goto 4, 3)) none) (cond (Nat.ble pc 39) (cond (Nat.beq pc 39) (some (.iconst 0, 1)) none) (cond (Nat.beq pc 40) (some (.invokestatic 154, 3)) none))) (cond (Nat.ble pc 45) (cond (Nat.ble pc 43) (cond (Nat.beq pc 43) (some (.aload 5, 2)) none) (cond (Nat.beq pc 45) (some (.invokevirtual 310, 3)) none)) (cond (Nat.ble pc 48) (cond (Nat.beq pc 48) (some (.astore 6, 2)) none) (cond (Nat.beq pc 50) (some (.aload 6, 2)) none)))))) (cond (Nat.ble pc 88) (cond (Nat.ble pc 70) (cond (Nat.ble pc 60) (cond (Nat.ble pc 52) (cond (Nat.beq pc 52) (some (.invokeinterface 112 1, 5)) none) (cond (Nat.ble pc 57) (cond (Nat.beq pc 57) (some (.ifCond .eq 61, 3)) none) (cond (Nat.beq pc 60) (some (.aload 6, 2)) none))) (cond (Nat.ble pc 62) (cond (Nat.beq pc 62) (some (.invokeinterface 117 1, 5)) none) (cond (Nat.ble pc 67) (cond (Nat.beq pc 67) (some (.checkcast 69, 3)) none) (cond (Nat.beq pc 70) (some (.astore 7, 2)) none)))) (cond (Nat.ble pc 77) (cond (Nat.ble pc 72) (cond (Nat.beq pc 72) (some (.aload 7, 2)) none) (cond (Nat.ble pc 74) (cond (Nat.beq pc 74) (some (.getfield 89, 3)) none) (cond (Nat.beq pc 77) (some (.ifnull 34, 3)) none))) (cond (Nat.ble pc 82) (cond (Nat.ble pc 80) (cond (Nat.beq pc 80) (some (.aload 7, 2)) none) (cond (Nat.beq pc 82) (some (.getfield 89, 3)) none)) (cond (Nat.ble pc 85) (cond (Nat.beq pc 85) (some (.getfield 268, 3)) none) (cond (Nat.beq pc 88) (some (.invokevirtual 311, 3)) none))))) (cond (Nat.ble pc 104) (cond (Nat.ble pc 96) (cond (Nat.ble pc 91) (cond (Nat.beq pc 91) (some (.ifCond .eq 20, 3)) none) (cond (Nat.ble pc 94) (cond (Nat.beq pc 94) (some (.aload 7, 2)) none) (cond (Nat.beq pc 96) (some (.getfield 89, 3)) none))) (cond (Nat.ble pc 99) (cond (Nat.beq pc 99) (some (.iload 4, 2)) none) (cond (Nat.ble pc 101) (cond (Nat.beq pc 101) (some (.invokestatic 314, 3)) none) (cond (Nat.beq pc 104) (some (.ifCond .eq 7, 3)) none)))) (cond (Nat.ble pc 111) (cond (Nat.ble pc 107) (cond (Nat.beq pc 107) (some (.iconst 1, 1)) none) (cond (Nat.ble pc 108) (cond (Nat.beq pc 108) (some (.goto 4, 3)) none) (cond (Nat.beq pc 111) (some (.iconst 0, 1)) none))) (cond (Nat.ble pc 115) (cond (Nat.ble pc 112) (cond (Nat.beq pc 112) (some (.invokestatic 154, 3)) none) (cond (Nat.beq pc 115) (some (.goto (-65), 3)) none)) (cond (Nat.ble pc 118) (cond (Nat.beq pc 118) (some (.aload 5, 2)) none) (cond (Nat.beq pc 120) (some (.invokevirtual 310, 3)) none))))))) (cond (Nat.ble pc 189) (cond (Nat.ble pc 157) (cond (Nat.ble pc 137) (cond (Nat.ble pc 127) (cond (Nat.ble pc 123) (cond (Nat.beq pc 123) (some (.astore 6, 2)) none) (cond (Nat.ble pc 125) (cond (Nat.beq pc 125) (some (.aload 6, 2)) none) (cond (Nat.beq pc 127) (some (.invokeinterface 112 1, 5)) none))) (cond (Nat.ble pc 132) (cond (Nat.beq pc 132) (some (.ifCond .eq 50, 3)) none) (cond (Nat.ble pc 135) (cond (Nat.beq pc 135) (some (.aload 6, 2)) none) (cond (Nat.beq pc 137) (some (.invokeinterface 117 1, 5)) none)))) (cond (Nat.ble pc 147) (cond (Nat.ble pc 142) (cond (Nat.beq pc 142) (some (.checkcast 69, 3)) none) (cond (Nat.ble pc 145) (cond (Nat.beq pc 145) (some (.astore 7, 2)) none) (cond (Nat.beq pc 147) (some (.aload 7, 2)) none))) (cond (Nat.ble pc 151) (cond (Nat.ble pc 149) (cond (Nat.beq pc 149) (some (.aload 7, 2)) none) (cond (Nat.beq pc 151) (some (.getfield 89, 3)) none)) (cond (Nat.ble pc 154) (cond (Nat.beq pc 154) (some (.getfield 239, 3)) none) (cond (Nat.beq pc 157) (some (.putfield 68, 3)) none))))) (cond (Nat.ble pc 171) (cond (Nat.ble pc 163) (cond (Nat.ble pc 160) (cond (Nat.beq pc 160) (some (.aload 7, 2)) none) (cond (Nat.ble pc 162) (cond (Nat.beq pc 162) (some (.iconst (-1), 1)) none) (cond (Nat.beq pc 163) (some (.putfield 185, 3)) none))) (cond (Nat.ble pc 166) (cond (Nat.beq pc 166) (some (.aload 7, 2)) none) (cond (Nat.ble pc 168) (cond (Nat.beq pc 168) (some (.getfield 89, 3)) none) (cond (Nat.beq pc 171) (some (.getstatic 318, 3)) none)))) (cond (Nat.ble pc 179) (cond (Nat.ble pc 174) (cond (Nat.beq pc 174) (some (.invokevirtual 258, 3)) none) (cond (Nat.ble pc 177) (cond (Nat.beq pc 177) (some (.istore 8, 2)) none) (cond (Nat.beq pc 179) (some (.goto (-54), 3)) none))) (cond (Nat.ble pc 185) (cond (Nat.ble pc 182) (cond (Nat.beq pc 182) (some (.new 321, 3)) none) (cond (Nat.beq pc 185) (some (.dup, 1)) none)) (cond (Nat.ble pc 186) (cond (Nat.beq pc 186) (some (.new 47, 3)) none) (cond (Nat.beq pc 189) (some (.dup, 1)) none)))))) (cond (Nat.ble pc 216) (cond (Nat.ble pc 201) (cond (Nat.ble pc 195) (cond (Nat.ble pc 190) (cond (Nat.beq pc 190) (some (.aload 5, 2)) none) (cond (Nat.ble pc 192) (cond (Nat.beq pc 192) (some (.invokespecial 323, 3)) none) (cond (Nat.beq pc 195) (some (.iload_n 3, 1)) none))) (cond (Nat.ble pc 196) (cond (Nat.beq pc 196) (some (.invokespecial 326, 3)) none) (cond (Nat.ble pc 199) (cond (Nat.beq pc 199) (some (.astore 6, 2)) none) (cond (Nat.beq pc 201) (some (.aload 5, 2)) none)))) (cond (Nat.ble pc 207) (cond (Nat.ble pc 203) (cond (Nat.beq pc 203) (some (.invokevirtual 329, 3)) none) (cond (Nat.ble pc 206) (cond (Nat.beq pc 206) (some (.aload_n 0, 1)) none) (cond (Nat.beq pc 207) (some (.getfield 41, 3)) none))) (cond (Nat.ble pc 212) (cond (Nat.ble pc 210) (cond (Nat.beq pc 210) (some (.aload 6, 2)) none) (cond (Nat.beq pc 212) (some (.invokevirtual 50, 3)) none)) (cond (Nat.ble pc 215) (cond (Nat.beq pc 215) (some (.pop, 1)) none) (cond (Nat.beq pc 216) (some (.aload_n 0, 1)) none))))) (cond (Nat.ble pc 229) (cond (Nat.ble pc 223) (cond (Nat.ble pc 217) (cond (Nat.beq pc 217) (some (.getfield 44, 3)) none) (cond (Nat.ble pc 220) (cond (Nat.beq pc 220) (some (.new 332, 3)) none) (cond (Nat.beq pc 223) (some (.dup, 1)) none))) (cond (Nat.ble pc 224) (cond (Nat.beq pc 224) (some (.iload 4, 2)) none) (cond (Nat.ble pc 226) (cond (Nat.beq pc 226) (some (.invokespecial 334, 3)) none) (cond (Nat.beq pc 229) (some (.invokevirtual 50, 3)) none)))) (cond (Nat.ble pc 234) (cond (Nat.ble pc 232) (cond (Nat.beq pc 232) (some (.pop, 1)) none) (cond (Nat.ble pc 233) (cond (Nat.beq pc 233) (some (.aload_n 0, 1)) none) (cond (Nat.beq pc 234) (some (.getfield 41, 3)) none))) (cond (Nat.ble pc 240) (cond (Nat.ble pc 237) (cond (Nat.beq pc 237) (some (.invokevirtual 146, 3)) none) (cond (Nat.beq pc 240) (some (.iconst 1, 1)) none)) (cond (Nat.ble pc 241) (cond (Nat.beq pc 241) (some (.isub, 1)) none) (cond (Nat.beq pc 242) (some (.ireturn, 1)) none))))))))
theorem tkX1_depart : tkAll cX1_depart tbX1_depart := fun pc => (tk_b (tk_b (tk_b (tk_b (tk_b (tk_b (tk_l dX1_depart_0) (tk_b (tk_l dX1_depart_1) (tk_l dX1_depart_2))) (tk_b (tk_l dX1_depart_5) (tk_b (tk_l dX1_depart_7) (tk_l dX1_depart_8)))) (tk_b (tk_b (tk_l dX1_depart_9) (tk_b (tk_l dX1_depart_10) (tk_l dX1_depart_13))) (tk_b (tk_l dX1_depart_14) (tk_b (tk_l dX1_depart_17) (tk_l dX1_depart_19))))) (tk_b (tk_b (tk_b (tk_l dX1_depart_22) (tk_b (tk_l dX1_depart_25) (tk_l dX1_depart_27))) (tk_b (tk_l dX1_depart_29) (tk_b (tk_l dX1_depart_32) (tk_l dX1_depart_35)))) (tk_b (tk_b (tk_l dX1_depart_36) (tk_b (tk_l dX1_depart_39) (tk_l dX1_depart_40))) (tk_b (tk_b (tk_l dX1_depart_43) (tk_l dX1_depart_45)) (tk_b (tk_l dX1_depart_48) (tk_l dX1_depart_50)))))) (tk_b (tk_b (tk_b (tk_b (tk_l dX1_depart_52) (tk_b (tk_l dX1_depart_57) (tk_l dX1_depart_60))) (tk_b (tk_l dX1_depart_62) (tk_b (tk_l dX1_depart_67) (tk_l dX1_depart_70)))) (tk_b (tk_b (tk_l dX1_depart_72) (tk_b (tk_l dX1_depart_74) (tk_l dX1_depart_77))) (tk_b (tk_b (tk_l dX1_depart_80) (tk_l dX1_depart_82)) (tk_b (tk_l dX1_depart_85) (tk_l dX1_depart_88))))) (tk_b (tk_b (tk_b (tk_l dX1_depart_91) (tk_b (tk_l dX1_depart_94) (tk_l dX1_depart_96))) (tk_b (tk_l dX1_depart_99) (tk_b (tk_l dX1_depart_101) (tk_l dX1_depart_104)))) (tk_b (tk_b (tk_l dX1_depart_107) (tk_b (tk_l dX1_depart_108) (tk_l dX1_depart_111))) (tk_b (tk_b (tk_l dX1_depart_112) (tk_l dX1_depart_115)) (tk_b (tk_l dX1_depart_118) (tk_l dX1_depart_120))))))) (tk_b (tk_b (tk_b (tk_b (tk_b (tk_l dX1_depart_123) (tk_b (tk_l dX1_depart_125) (tk_l dX1_depart_127))) (tk_b (tk_l dX1_depart_132) (tk_b (tk_l dX1_depart_135) (tk_l dX1_depart_137)))) (tk_b (tk_b (tk_l dX1_depart_142) (tk_b (tk_l dX1_depart_145) (tk_l dX1_depart_147))) (tk_b (tk_b (tk_l dX1_depart_149) (tk_l dX1_depart_151)) (tk_b (tk_l dX1_depart_154) (tk_l dX1_depart_157))))) (tk_b (tk_b (tk_b (tk_l dX1_depart_160) (tk_b (tk_l dX1_depart_162) (tk_l dX1_depart_163))) (tk_b (tk_l dX1_depart_166) (tk_b (tk_l dX1_depart_168) (tk_l dX1_depart_171)))) (tk_b (tk_b (tk_l dX1_depart_174) (tk_b (tk_l dX1_depart_177) (tk_l dX1_depart_179))) (tk_b (tk_b (tk_l dX1_depart_182) (tk_l dX1_depart_185)) (tk_b (tk_l dX1_depart_186) (tk_l dX1_depart_189)))))) (tk_b (tk_b (tk_b (tk_b (tk_l dX1_depart_190) (tk_b (tk_l dX1_depart_192) (tk_l dX1_depart_195))) (tk_b (tk_l dX1_depart_196) (tk_b (tk_l dX1_depart_199) (tk_l dX1_depart_201)))) (tk_b (tk_b (tk_l dX1_depart_203) (tk_b (tk_l dX1_depart_206) (tk_l dX1_depart_207))) (tk_b (tk_b (tk_l dX1_depart_210) (tk_l dX1_depart_212)) (tk_b (tk_l dX1_depart_215) (tk_l dX1_depart_216))))) (tk_b (tk_b (tk_b (tk_l dX1_depart_217) (tk_b (tk_l dX1_depart_220) (tk_l dX1_depart_223))) (tk_b (tk_l dX1_depart_224) (tk_b (tk_l dX1_depart_226) (tk_l dX1_depart_229)))) (tk_b (tk_b (tk_l dX1_depart_232) (tk_b (tk_l dX1_depart_233) (tk_l dX1_depart_234))) (tk_b (tk_b (tk_l dX1_depart_237) (tk_l dX1_depart_240)) (tk_b (tk_l dX1_depart_241) (tk_l dX1_depart_242))))))))
def tbX1_isWhole (pc : Nat) : Option (Instr × Nat) := (cond (Nat.ble pc 28) (cond (Nat.ble pc 9) (cond (Nat.ble pc 2) (cond (Nat.ble pc 0) (cond (Nat.beq pc 0) (some (.iconst 1, 1)) none) (cond (Nat.ble pc 1) (cond (Nat.beq pc 1) (some (.istore_n 2, 1)) none) (cond (Nat.beq pc 2) (some (.aload_n 0, 1)) none))) (cond (Nat.ble pc 3) (cond (Nat.beq pc 3) (some (.getfield 246, 3)) none) (cond (Nat.ble pc 6) (cond (Nat.beq pc 6) (some (.invokevirtual 108, 3)) none) (cond (Nat.beq pc 9) (some (.astore_n 3, 1)) none)))) (cond (Nat.ble pc 16) (cond (Nat.ble pc 10) (cond (Nat.beq pc 10) (some (.aload_n 3, 1)) none) (cond (Nat.ble pc 11) (cond (Nat.beq pc 11) (some (.invokeinterface 112 1, 5)) none) (cond (Nat.beq pc 16) (some (.ifCond .eq 34, 3)) none))) (cond (Nat.ble pc 20) (cond (Nat.ble pc 19) (cond (Nat.beq pc 19) (some (.aload_n 3, 1)) none) (cond (Nat.beq pc 20) (some (.invokeinterface 117 1, 5)) none)) (cond (Nat.ble pc 25) (cond (Nat.beq pc 25) (some (.checkcast 69, 3)) none) (cond (Nat.beq pc 28) (some (.astore 4, 2)) none))))) (cond (Nat.ble pc 40) (cond (Nat.ble pc 33) (cond (Nat.ble pc 30) (cond (Nat.beq pc 30) (some (.iload_n 2, 1)) none) (cond (Nat.ble pc 31) (cond (Nat.beq pc 31) (some (.aload 4, 2)) none) (cond (Nat.beq pc 33) (some (.getfield 185, 3)) none))) (cond (Nat.ble pc 36) (cond (Nat.beq pc 36) (some (.iload_n 1, 1)) none) (cond (Nat.ble pc 37) (cond (Nat.beq pc 37) (some (.if_icmp .ne 7, 3)) none) (cond (Nat.beq pc 40) (some (.iconst 1, 1)) none)))) (cond (Nat.ble pc 45) (cond (Nat.ble pc 41) (cond (Nat.beq pc 41) (some (.goto 4, 3)) none) (cond (Nat.ble pc 44) (cond (Nat.beq pc 44) (some (.iconst 0, 1)) none) (cond (Nat.beq pc 45) (some (.iand, 1)) none))) (cond (Nat.ble pc 47) (cond (Nat.ble pc 46) (cond (Nat.beq pc 46) (some (.istore_n 2, 1)) none) (cond (Nat.beq pc 47) (some (.goto (-37), 3)) none)) (cond (Nat.ble pc 50) (cond (Nat.beq pc 50) (some (.iload_n 2, 1)) none) (cond (Nat.beq pc 51) (some (.ireturn, 1)) none))))))
theorem tkX1_isWhole : tkAll cX1_isWhole tbX1_isWhole := fun pc => (tk_b (tk_b (tk_b (tk_b (tk_l dX1_isWhole_0) (tk_b (tk_l dX1_isWhole_1) (tk_l dX1_isWhole_2))) (tk_b (tk_l dX1_isWhole_3) (tk_b (tk_l dX1_isWhole_6) (tk_l dX1_isWhole_9)))) (tk_b (tk_b (tk_l dX1_isWhole_10) (tk_b (tk_l dX1_isWhole_11) (tk_l dX1_isWhole_16))) (tk_b (tk_b (tk_l dX1_isWhole_19) (tk_l dX1_isWhole_20)) (tk_b (tk_l dX1_isWhole_25) (tk_l dX1_isWhole_28))))) (tk_b (tk_b (tk_b (tk_l dX1_isWhole_30) (tk_b (tk_l dX1_isWhole_31) (tk_l dX1_isWhole_33))) (tk_b (tk_l dX1_isWhole_36) (tk_b (tk_l dX1_isWhole_37) (tk_l dX1_isWhole_40)))) (tk_b (tk_b (tk_l dX1_isWhole_41) (tk_b (tk_l dX1_isWhole_44) (tk_l dX1_isWhole_45))) (tk_b (tk_b (tk_l dX1_isWhole_46) (tk_l dX1_isWhole_47)) (tk_b (tk_l dX1_isWhole_50) (tk_l dX1_isWhole_51))))))
def tbX1_arrive (pc : Nat) : Option (Instr × Nat) := (cond (Nat.ble pc 83) (cond (Nat.ble pc 36) (cond (Nat.ble pc 17) (cond (Nat.ble pc 8) (cond (Nat.ble pc 1) (cond (Nat.ble pc 0) (cond (Nat.beq pc 0) (some (.iload_n 1, 1)) none) (cond (Nat.beq pc 1) (some (.aload_n 0, 1)) none)) (cond (Nat.ble pc 2) (cond (Nat.beq pc 2) (some (.getfield 41, 3)) none) (cond (Nat.ble pc 5) (cond (Nat.beq pc 5) (some (.invokevirtual 146, 3)) none) (cond (Nat.beq pc 8) (some (.invokestatic 147, 3)) none)))) (cond (Nat.ble pc 12) (cond (Nat.ble pc 11) (cond (Nat.beq pc 11) (some (.iload_n 2, 1)) none) (cond (Nat.beq pc 12) (some (.iconst 0, 1)) none)) (cond (Nat.ble pc 13) (cond (Nat.beq pc 13) (some (.iconst 4, 1)) none) (cond (Nat.ble pc 14) (cond (Nat.beq pc 14) (some (.invokestatic 139, 3)) none) (cond (Nat.beq pc 17) (some (.aload_n 0, 1)) none))))) (cond (Nat.ble pc 28) (cond (Nat.ble pc 21) (cond (Nat.ble pc 18) (cond (Nat.beq pc 18) (some (.getfield 41, 3)) none) (cond (Nat.beq pc 21) (some (.iload_n 1, 1)) none)) (cond (Nat.ble pc 22) (cond (Nat.beq pc 22) (some (.invokevirtual 74, 3)) none) (cond (Nat.ble pc 25) (cond (Nat.beq pc 25) (some (.checkcast 321, 3)) none) (cond (Nat.beq pc 28) (some (.astore_n 3, 1)) none)))) (cond (Nat.ble pc 31) (cond (Nat.ble pc 29) (cond (Nat.beq pc 29) (some (.iconst 5, 1)) none) (cond (Nat.ble pc 30) (cond (Nat.beq pc 30) (some (.aload_n 3, 1)) none) (cond (Nat.beq pc 31) (some (.getfield 337, 3)) none))) (cond (Nat.ble pc 34) (cond (Nat.beq pc 34) (some (.imul, 1)) none) (cond (Nat.ble pc 35) (cond (Nat.beq pc 35) (some (.iload_n 2, 1)) none) (cond (Nat.beq pc 36) (some (.iadd, 1)) none)))))) (cond (Nat.ble pc 60) (cond (Nat.ble pc 45) (cond (Nat.ble pc 39) (cond (Nat.ble pc 37) (cond (Nat.beq pc 37) (some (.istore 4, 2)) none) (cond (Nat.beq pc 39) (some (.aload_n 0, 1)) none)) (cond (Nat.ble pc 40) (cond (Nat.beq pc 40) (some (.getfield 10, 3)) none) (cond (Nat.ble pc 43) (cond (Nat.beq pc 43) (some (.iload 4, 2)) none) (cond (Nat.beq pc 45) (some (.invokevirtual 74, 3)) none)))) (cond (Nat.ble pc 53) (cond (Nat.ble pc 48) (cond (Nat.beq pc 48) (some (.checkcast 47, 3)) none) (cond (Nat.ble pc 51) (cond (Nat.beq pc 51) (some (.astore 5, 2)) none) (cond (Nat.beq pc 53) (some (.aload_n 3, 1)) none))) (cond (Nat.ble pc 54) (cond (Nat.beq pc 54) (some (.getfield 340, 3)) none) (cond (Nat.ble pc 57) (cond (Nat.beq pc 57) (some (.ifCond .ne 25, 3)) none) (cond (Nat.beq pc 60) (some (.aload 5, 2)) none))))) (cond (Nat.ble pc 72) (cond (Nat.ble pc 65) (cond (Nat.ble pc 62) (cond (Nat.beq pc 62) (some (.invokevirtual 78, 3)) none) (cond (Nat.beq pc 65) (some (.aload_n 3, 1)) none)) (cond (Nat.ble pc 66) (cond (Nat.beq pc 66) (some (.getfield 343, 3)) none) (cond (Nat.ble pc 69) (cond (Nat.beq pc 69) (some (.invokevirtual 78, 3)) none) (cond (Nat.beq pc 72) (some (.iadd, 1)) none)))) (cond (Nat.ble pc 78) (cond (Nat.ble pc 73) (cond (Nat.beq pc 73) (some (.bipush 6, 2)) none) (cond (Nat.ble pc 75) (cond (Nat.beq pc 75) (some (.if_icmp .gt 7, 3)) none) (cond (Nat.beq pc 78) (some (.iconst 1, 1)) none))) (cond (Nat.ble pc 79) (cond (Nat.beq pc 79) (some (.goto 4, 3)) none) (cond (Nat.ble pc 82) (cond (Nat.beq pc 82) (some (.iconst 0, 1)) none) (cond (Nat.beq pc 83) (some (.invokestatic 154, 3)) none))))))) (cond (Nat.ble pc 136) (cond (Nat.ble pc 107) (cond (Nat.ble pc 92) (cond (Nat.ble pc 87) (cond (Nat.ble pc 86) (cond (Nat.beq pc 86) (some (.aload_n 3, 1)) none) (cond (Nat.beq pc 87) (some (.iconst 1, 1)) none)) (cond (Nat.ble pc 88) (cond (Nat.beq pc 88) (some (.putfield 340, 3)) none) (cond (Nat.ble pc 91) (cond (Nat.beq pc 91) (some (.aload_n 3, 1)) none) (cond (Nat.beq pc 92) (some (.getfield 343, 3)) none)))) (cond (Nat.ble pc 98) (cond (Nat.ble pc 95) (cond (Nat.beq pc 95) (some (.invokevirtual 310, 3)) none) (cond (Nat.beq pc 98) (some (.astore 6, 2)) none)) (cond (Nat.ble pc 100) (cond (Nat.beq pc 100) (some (.aload 6, 2)) none) (cond (Nat.ble pc 102) (cond (Nat.beq pc 102) (some (.invokeinterface 112 1, 5)) none) (cond (Nat.beq pc 107) (some (.ifCond .eq 57, 3)) none))))) (cond (Nat.ble pc 122) (cond (Nat.ble pc 112) (cond (Nat.ble pc 110) (cond (Nat.beq pc 110) (some (.aload 6, 2)) none) (cond (Nat.beq pc 112) (some (.invokeinterface 117 1, 5)) none)) (cond (Nat.ble pc 117) (cond (Nat.beq pc 117) (some (.checkcast 69, 3)) none) (cond (Nat.ble pc 120) (cond (Nat.beq pc 120) (some (.astore 7, 2)) none) (cond (Nat.beq pc 122) (some (.aload 7, 2)) none)))) (cond (Nat.ble pc 129) (cond (Nat.ble pc 124) (cond (Nat.beq pc 124) (some (.iload 4, 2)) none) (cond (Nat.ble pc 126) (cond (Nat.beq pc 126) (some (.putfield 185, 3)) none) (cond (Nat.beq pc 129) (some (.aload 5, 2)) none))) (cond (Nat.ble pc 131) (cond (Nat.beq pc 131) (some (.aload 7, 2)) none) (cond (Nat.ble pc 133) (cond (Nat.beq pc 133) (some (.invokevirtual 164, 3)) none) (cond (Nat.beq pc 136) (some (.aload 7, 2)) none)))))) (cond (Nat.ble pc 164) (cond (Nat.ble pc 148) (cond (Nat.ble pc 141) (cond (Nat.ble pc 138) (cond (Nat.beq pc 138) (some (.getfield 89, 3)) none) (cond (Nat.beq pc 141) (some (.ifnonnull 7, 3)) none)) (cond (Nat.ble pc 144) (cond (Nat.beq pc 144) (some (.iconst 0, 1)) none) (cond (Nat.ble pc 145) (cond (Nat.beq pc 145) (some (.goto 14, 3)) none) (cond (Nat.beq pc 148) (some (.aload 7, 2)) none)))) (cond (Nat.ble pc 156) (cond (Nat.ble pc 150) (cond (Nat.beq pc 150) (some (.getfield 89, 3)) none) (cond (Nat.ble pc 153) (cond (Nat.beq pc 153) (some (.getstatic 346, 3)) none) (cond (Nat.beq pc 156) (some (.invokevirtual 258, 3)) none))) (cond (Nat.ble pc 159) (cond (Nat.beq pc 159) (some (.istore 8, 2)) none) (cond (Nat.ble pc 161) (cond (Nat.beq pc 161) (some (.goto (-61), 3)) none) (cond (Nat.beq pc 164) (some (.aload_n 0, 1)) none))))) (cond (Nat.ble pc 173) (cond (Nat.ble pc 168) (cond (Nat.ble pc 165) (cond (Nat.beq pc 165) (some (.getfield 44, 3)) none) (cond (Nat.beq pc 168) (some (.new 349, 3)) none)) (cond (Nat.ble pc 171) (cond (Nat.beq pc 171) (some (.dup, 1)) none) (cond (Nat.ble pc 172) (cond (Nat.beq pc 172) (some (.iload_n 1, 1)) none) (cond (Nat.beq pc 173) (some (.iload 4, 2)) none)))) (cond (Nat.ble pc 181) (cond (Nat.ble pc 175) (cond (Nat.beq pc 175) (some (.invokespecial 351, 3)) none) (cond (Nat.ble pc 178) (cond (Nat.beq pc 178) (some (.invokevirtual 50, 3)) none) (cond (Nat.beq pc 181) (some (.pop, 1)) none))) (cond (Nat.ble pc 182) (cond (Nat.beq pc 182) (some (.aload 5, 2)) none) (cond (Nat.ble pc 184) (cond (Nat.beq pc 184) (some (.invokevirtual 78, 3)) none) (cond (Nat.beq pc 187) (some (.ireturn, 1)) none))))))))
theorem tkX1_arrive : tkAll cX1_arrive tbX1_arrive := fun pc => (tk_b (tk_b (tk_b (tk_b (tk_b (tk_b (tk_l dX1_arrive_0) (tk_l dX1_arrive_1)) (tk_b (tk_l dX1_arrive_2) (tk_b (tk_l dX1_arrive_5) (tk_l dX1_arrive_8)))) (tk_b (tk_b (tk_l dX1_arrive_11) (tk_l dX1_arrive_12)) (tk_b (tk_l dX1_arrive_13) (tk_b (tk_l dX1_arrive_14) (tk_l dX1_arrive_17))))) (tk_b (tk_b (tk_b (tk_l dX1_arrive_18) (tk_l dX1_arrive_21)) (tk_b (tk_l dX1_arrive_22) (tk_b (tk_l dX1_arrive_25) (tk_l dX1_arrive_28)))) (tk_b (tk_b (tk_l dX1_arrive_29) (tk_b (tk_l dX1_arrive_30) (tk_l dX1_arrive_31))) (tk_b (tk_l dX1_arrive_34) (tk_b (tk_l dX1_arrive_35) (tk_l dX1_arrive_36)))))) (tk_b (tk_b (tk_b (tk_b (tk_l dX1_arrive_37) (tk_l dX1_arrive_39)) (tk_b (tk_l dX1_arrive_40) (tk_b (tk_l dX1_arrive_43) (tk_l dX1_arrive_45)))) (tk_b (tk_b (tk_l dX1_arrive_48) (tk_b (tk_l dX1_arrive_51) (tk_l dX1_arrive_53))) (tk_b (tk_l dX1_arrive_54) (tk_b (tk_l dX1_arrive_57) (tk_l dX1_arrive_60))))) (tk_b (tk_b (tk_b (tk_l dX1_arrive_62) (tk_l dX1_arrive_65)) (tk_b (tk_l dX1_arrive_66) (tk_b (tk_l dX1_arrive_69) (tk_l dX1_arrive_72)))) (tk_b (tk_b (tk_l dX1_arrive_73) (tk_b (tk_l dX1_arrive_75) (tk_l dX1_arrive_78))) (tk_b (tk_l dX1_arrive_79) (tk_b (tk_l dX1_arrive_82) (tk_l dX1_arrive_83))))))) (tk_b (tk_b (tk_b (tk_b (tk_b (tk_l dX1_arrive_86) (tk_l dX1_arrive_87)) (tk_b (tk_l dX1_arrive_88) (tk_b (tk_l dX1_arrive_91) (tk_l dX1_arrive_92)))) (tk_b (tk_b (tk_l dX1_arrive_95) (tk_l dX1_arrive_98)) (tk_b (tk_l dX1_arrive_100) (tk_b (tk_l dX1_arrive_102) (tk_l dX1_arrive_107))))) (tk_b (tk_b (tk_b (tk_l dX1_arrive_110) (tk_l dX1_arrive_112)) (tk_b (tk_l dX1_arrive_117) (tk_b (tk_l dX1_arrive_120) (tk_l dX1_arrive_122)))) (tk_b (tk_b (tk_l dX1_arrive_124) (tk_b (tk_l dX1_arrive_126) (tk_l dX1_arrive_129))) (tk_b (tk_l dX1_arrive_131) (tk_b (tk_l dX1_arrive_133) (tk_l dX1_arrive_136)))))) (tk_b (tk_b (tk_b (tk_b (tk_l dX1_arrive_138) (tk_l dX1_arrive_141)) (tk_b (tk_l dX1_arrive_144) (tk_b (tk_l dX1_arrive_145) (tk_l dX1_arrive_148)))) (tk_b (tk_b (tk_l dX1_arrive_150) (tk_b (tk_l dX1_arrive_153) (tk_l dX1_arrive_156))) (tk_b (tk_l dX1_arrive_159) (tk_b (tk_l dX1_arrive_161) (tk_l dX1_arrive_164))))) (tk_b (tk_b (tk_b (tk_l dX1_arrive_165) (tk_l dX1_arrive_168)) (tk_b (tk_l dX1_arrive_171) (tk_b (tk_l dX1_arrive_172) (tk_l dX1_arrive_173)))) (tk_b (tk_b (tk_l dX1_arrive_175) (tk_b (tk_l dX1_arrive_178) (tk_l dX1_arrive_181))) (tk_b (tk_l dX1_arrive_182) (tk_b (tk_l dX1_arrive_184) (tk_l dX1_arrive_187))))))))
def tbX2_init (pc : Nat) : Option (Instr × Nat) := (cond (Nat.ble pc 7) (cond (Nat.ble pc 4) (cond (Nat.ble pc 0) (cond (Nat.beq pc 0) (some (.aload_n 0, 1)) none) (cond (Nat.ble pc 1) (cond (Nat.beq pc 1) (some (.invokespecial 3, 3)) none) (cond (Nat.beq pc 4) (some (.aload_n 0, 1)) none))) (cond (Nat.ble pc 5) (cond (Nat.beq pc 5) (some (.iload_n 1, 1)) none) (cond (Nat.ble pc 6) (cond (Nat.beq pc 6) (some (.iload_n 2, 1)) none) (cond (Nat.beq pc 7) (some (.invokestatic 9, 3)) none)))) (cond (Nat.ble pc 14) (cond (Nat.ble pc 10) (cond (Nat.beq pc 10) (some (.putfield 15, 3)) none) (cond (Nat.ble pc 13) (cond (Nat.beq pc 13) (some (.aload_n 0, 1)) none) (cond (Nat.beq pc 14) (some (.iload_n 1, 1)) none))) (cond (Nat.ble pc 16) (cond (Nat.ble pc 15) (cond (Nat.beq pc 15) (some (.iload_n 2, 1)) none) (cond (Nat.beq pc 16) (some (.invokestatic 21, 3)) none)) (cond (Nat.ble pc 19) (cond (Nat.beq pc 19) (some (.putfield 24, 3)) none) (cond (Nat.beq pc 22) (some (.return_, 1)) none)))))
theorem tkX2_init : tkAll cX2_init tbX2_init := fun pc => (tk_b (tk_b (tk_b (tk_l dX2_init_0) (tk_b (tk_l dX2_init_1) (tk_l dX2_init_4))) (tk_b (tk_l dX2_init_5) (tk_b (tk_l dX2_init_6) (tk_l dX2_init_7)))) (tk_b (tk_b (tk_l dX2_init_10) (tk_b (tk_l dX2_init_13) (tk_l dX2_init_14))) (tk_b (tk_b (tk_l dX2_init_15) (tk_l dX2_init_16)) (tk_b (tk_l dX2_init_19) (tk_l dX2_init_22)))))
def tbX2_hashCode (pc : Nat) : Option (Instr × Nat) := (cond (Nat.ble pc 5) (cond (Nat.ble pc 1) (cond (Nat.ble pc 0) (cond (Nat.beq pc 0) (some (.iconst 3, 1)) none) (cond (Nat.beq pc 1) (some (.aload_n 0, 1)) none)) (cond (Nat.ble pc 2) (cond (Nat.beq pc 2) (some (.getfield 15, 3)) none) (cond (Nat.beq pc 5) (some (.imul, 1)) none))) (cond (Nat.ble pc 7) (cond (Nat.ble pc 6) (cond (Nat.beq pc 6) (some (.aload_n 0, 1)) none) (cond (Nat.beq pc 7) (some (.getfield 24, 3)) none)) (cond (Nat.ble pc 10) (cond (Nat.beq pc 10) (some (.iadd, 1)) none) (cond (Nat.beq pc 11) (some (.ireturn, 1)) none))))
theorem tkX2_hashCode : tkAll cX2_hashCode tbX2_hashCode := fun pc => (tk_b (tk_b (tk_b (tk_l dX2_hashCode_0) (tk_l dX2_hashCode_1)) (tk_b (tk_l dX2_hashCode_2) (tk_l dX2_hashCode_5))) (tk_b (tk_b (tk_l dX2_hashCode_6) (tk_l dX2_hashCode_7)) (tk_b (tk_l dX2_hashCode_10) (tk_l dX2_hashCode_11))))
def tbX2_equals (pc : Nat) : Option (Instr × Nat) := (cond (Nat.ble pc 18) (cond (Nat.ble pc 7) (cond (Nat.ble pc 1) (cond (Nat.ble pc 0) (cond (Nat.beq pc 0) (some (.aload_n 1, 1)) none) (cond (Nat.beq pc 1) (some (.instanceof 16, 3)) none)) (cond (Nat.ble pc 4) (cond (Nat.beq pc 4) (some (.ifCond .eq 35, 3)) none) (cond (Nat.beq pc 7) (some (.aload_n 1, 1)) none))) (cond (Nat.ble pc 11) (cond (Nat.ble pc 8) (cond (Nat.beq pc 8) (some (.checkcast 16, 3)) none) (cond (Nat.beq pc 11) (some (.getfield 15, 3)) none)) (cond (Nat.ble pc 14) (cond (Nat.beq pc 14) (some (.aload_n 0, 1)) none) (cond (Nat.ble pc 15) (cond (Nat.beq pc 15) (some (.getfield 15, 3)) none) (cond (Nat.beq pc 18) (some (.if_icmp .ne 21, 3)) none))))) (cond (Nat.ble pc 29) (cond (Nat.ble pc 22) (cond (Nat.ble pc 21) (cond (Nat.beq pc 21) (some (.aload_n 1, 1)) none) (cond (Nat.beq pc 22) (some (.checkcast 16, 3)) none)) (cond (Nat.ble pc 25) (cond (Nat.beq pc 25) (some (.getfield 24, 3)) none) (cond (Nat.ble pc 28) (cond (Nat.beq pc 28) (some (.aload_n 0, 1)) none) (cond (Nat.beq pc 29) (some (.getfield 24, 3)) none)))) (cond (Nat.ble pc 35) (cond (Nat.ble pc 32) (cond (Nat.beq pc 32) (some (.if_icmp .ne 7, 3)) none) (cond (Nat.beq pc 35) (some (.iconst 1, 1)) none)) (cond (Nat.ble pc 36) (cond (Nat.beq pc 36) (some (.goto 4, 3)) none) (cond (Nat.ble pc 39) (cond (Nat.beq pc 39) (some (.iconst 0, 1)) none) (cond (Nat.beq pc 40) (some (.ireturn, 1)) none))))))
theorem tkX2_equals : tkAll cX2_equals tbX2_equals := fun pc => (tk_b (tk_b (tk_b (tk_b (tk_l dX2_equals_0) (tk_l dX2_equals_1)) (tk_b (tk_l dX2_equals_4) (tk_l dX2_equals_7))) (tk_b (tk_b (tk_l dX2_equals_8) (tk_l dX2_equals_11)) (tk_b (tk_l dX2_equals_14) (tk_b (tk_l dX2_equals_15) (tk_l dX2_equals_18))))) (tk_b (tk_b (tk_b (tk_l dX2_equals_21) (tk_l dX2_equals_22)) (tk_b (tk_l dX2_equals_25) (tk_b (tk_l dX2_equals_28) (tk_l dX2_equals_29)))) (tk_b (tk_b (tk_l dX2_equals_32) (tk_l dX2_equals_35)) (tk_b (tk_l dX2_equals_36) (tk_b (tk_l dX2_equals_39) (tk_l dX2_equals_40))))))
def tbX3_init (pc : Nat) : Option (Instr × Nat) := (cond (Nat.ble pc 0) (cond (Nat.beq pc 0) (some (.aload_n 0, 1)) none) (cond (Nat.ble pc 1) (cond (Nat.beq pc 1) (some (.invokespecial 1, 3)) none) (cond (Nat.beq pc 4) (some (.return_, 1)) none)))
theorem tkX3_init : tkAll cX3_init tbX3_init := fun pc => (tk_b (tk_l dX3_init_0) (tk_b (tk_l dX3_init_1) (tk_l dX3_init_4)))
def tbX3_isFree (pc : Nat) : Option (Instr × Nat) := (cond (Nat.ble pc 8) (cond (Nat.ble pc 1) (cond (Nat.ble pc 0) (cond (Nat.beq pc 0) (some (.aload_n 0, 1)) none) (cond (Nat.beq pc 1) (some (.getfield 7, 3)) none)) (cond (Nat.ble pc 4) (cond (Nat.beq pc 4) (some (.ifnonnull 14, 3)) none) (cond (Nat.ble pc 7) (cond (Nat.beq pc 7) (some (.aload_n 0, 1)) none) (cond (Nat.beq pc 8) (some (.getfield 13, 3)) none)))) (cond (Nat.ble pc 14) (cond (Nat.ble pc 11) (cond (Nat.beq pc 11) (some (.ifCond .ne 7, 3)) none) (cond (Nat.beq pc 14) (some (.iconst 1, 1)) none)) (cond (Nat.ble pc 15) (cond (Nat.beq pc 15) (some (.goto 4, 3)) none) (cond (Nat.ble pc 18) (cond (Nat.beq pc 18) (some (.iconst 0, 1)) none) (cond (Nat.beq pc 19) (some (.ireturn, 1)) none)))))
theorem tkX3_isFree : tkAll cX3_isFree tbX3_isFree := fun pc => (tk_b (tk_b (tk_b (tk_l dX3_isFree_0) (tk_l dX3_isFree_1)) (tk_b (tk_l dX3_isFree_4) (tk_b (tk_l dX3_isFree_7) (tk_l dX3_isFree_8)))) (tk_b (tk_b (tk_l dX3_isFree_11) (tk_l dX3_isFree_14)) (tk_b (tk_l dX3_isFree_15) (tk_b (tk_l dX3_isFree_18) (tk_l dX3_isFree_19)))))
def tbX5_init (pc : Nat) : Option (Instr × Nat) := (cond (Nat.ble pc 9) (cond (Nat.ble pc 4) (cond (Nat.ble pc 0) (cond (Nat.beq pc 0) (some (.aload_n 0, 1)) none) (cond (Nat.ble pc 1) (cond (Nat.beq pc 1) (some (.invokespecial 3, 3)) none) (cond (Nat.beq pc 4) (some (.aload_n 0, 1)) none))) (cond (Nat.ble pc 5) (cond (Nat.beq pc 5) (some (.iconst (-1), 1)) none) (cond (Nat.ble pc 6) (cond (Nat.beq pc 6) (some (.putfield 9, 3)) none) (cond (Nat.beq pc 9) (some (.aload_n 0, 1)) none)))) (cond (Nat.ble pc 14) (cond (Nat.ble pc 10) (cond (Nat.beq pc 10) (some (.iload_n 1, 1)) none) (cond (Nat.ble pc 11) (cond (Nat.beq pc 11) (some (.putfield 15, 3)) none) (cond (Nat.beq pc 14) (some (.aload_n 0, 1)) none))) (cond (Nat.ble pc 15) (cond (Nat.beq pc 15) (some (.iload_n 2, 1)) none) (cond (Nat.ble pc 16) (cond (Nat.beq pc 16) (some (.putfield 18, 3)) none) (cond (Nat.beq pc 19) (some (.return_, 1)) none)))))
theorem tkX5_init : tkAll cX5_init tbX5_init := fun pc => (tk_b (tk_b (tk_b (tk_l dX5_init_0) (tk_b (tk_l dX5_init_1) (tk_l dX5_init_4))) (tk_b (tk_l dX5_init_5) (tk_b (tk_l dX5_init_6) (tk_l dX5_init_9)))) (tk_b (tk_b (tk_l dX5_init_10) (tk_b (tk_l dX5_init_11) (tk_l dX5_init_14))) (tk_b (tk_l dX5_init_15) (tk_b (tk_l dX5_init_16) (tk_l dX5_init_19)))))
def tbX6_init (pc : Nat) : Option (Instr × Nat) := (cond (Nat.ble pc 5) (cond (Nat.ble pc 1) (cond (Nat.ble pc 0) (cond (Nat.beq pc 0) (some (.aload_n 0, 1)) none) (cond (Nat.beq pc 1) (some (.invokespecial 1, 3)) none)) (cond (Nat.ble pc 4) (cond (Nat.beq pc 4) (some (.aload_n 0, 1)) none) (cond (Nat.beq pc 5) (some (.iload_n 1, 1)) none))) (cond (Nat.ble pc 9) (cond (Nat.ble pc 6) (cond (Nat.beq pc 6) (some (.putfield 7, 3)) none) (cond (Nat.beq pc 9) (some (.aload_n 0, 1)) none)) (cond (Nat.ble pc 10) (cond (Nat.beq pc 10) (some (.iload_n 2, 1)) none) (cond (Nat.ble pc 11) (cond (Nat.beq pc 11) (some (.putfield 13, 3)) none) (cond (Nat.beq pc 14) (some (.return_, 1)) none)))))
theorem tkX6_init : tkAll cX6_init tbX6_init := fun pc => (tk_b (tk_b (tk_b (tk_l dX6_init_0) (tk_l dX6_init_1)) (tk_b (tk_l dX6_init_4) (tk_l dX6_init_5))) (tk_b (tk_b (tk_l dX6_init_6) (tk_l dX6_init_9)) (tk_b (tk_l dX6_init_10) (tk_b (tk_l dX6_init_11) (tk_l dX6_init_14)))))
def tbX7_init (pc : Nat) : Option (Instr × Nat) := (cond (Nat.ble pc 9) (cond (Nat.ble pc 4) (cond (Nat.ble pc 0) (cond (Nat.beq pc 0) (some (.aload_n 0, 1)) none) (cond (Nat.ble pc 1) (cond (Nat.beq pc 1) (some (.invokespecial 1, 3)) none) (cond (Nat.beq pc 4) (some (.aload_n 0, 1)) none))) (cond (Nat.ble pc 5) (cond (Nat.beq pc 5) (some (.iload_n 1, 1)) none) (cond (Nat.ble pc 6) (cond (Nat.beq pc 6) (some (.putfield 7, 3)) none) (cond (Nat.beq pc 9) (some (.aload_n 0, 1)) none)))) (cond (Nat.ble pc 14) (cond (Nat.ble pc 10) (cond (Nat.beq pc 10) (some (.iload_n 2, 1)) none) (cond (Nat.ble pc 11) (cond (Nat.beq pc 11) (some (.putfield 13, 3)) none) (cond (Nat.beq pc 14) (some (.aload_n 0, 1)) none))) (cond (Nat.ble pc 15) (cond (Nat.beq pc 15) (some (.iload_n 3, 1)) none) (cond (Nat.ble pc 16) (cond (Nat.beq pc 16) (some (.putfield 16, 3)) none) (cond (Nat.beq pc 19) (some (.return_, 1)) none)))))
theorem tkX7_init : tkAll cX7_init tbX7_init := fun pc => (tk_b (tk_b (tk_b (tk_l dX7_init_0) (tk_b (tk_l dX7_init_1) (tk_l dX7_init_4))) (tk_b (tk_l dX7_init_5) (tk_b (tk_l dX7_init_6) (tk_l dX7_init_9)))) (tk_b (tk_b (tk_l dX7_init_10) (tk_b (tk_l dX7_init_11) (tk_l dX7_init_14))) (tk_b (tk_l dX7_init_15) (tk_b (tk_l dX7_init_16) (tk_l dX7_init_19)))))
def tbX8_init (pc : Nat) : Option (Instr × Nat) := (cond (Nat.ble pc 174) (cond (Nat.ble pc 85) (cond (Nat.ble pc 43) (cond (Nat.ble pc 18) (cond (Nat.ble pc 6) (cond (Nat.ble pc 1) (cond (Nat.ble pc 0) (cond (Nat.beq pc 0) (some (.aload_n 0, 1)) none) (cond (Nat.beq pc 1) (some (.aload_n 1, 1)) none)) (cond (Nat.ble pc 2) (cond (Nat.beq pc 2) (some (.putfield 3, 3)) none) (cond (Nat.ble pc 5) (cond (Nat.beq pc 5) (some (.aload_n 0, 1)) none) (cond (Nat.beq pc 6) (some (.invokespecial 9, 3)) none)))) (cond (Nat.ble pc 10) (cond (Nat.ble pc 9) (cond (Nat.beq pc 9) (some (.aload_n 0, 1)) none) (cond (Nat.beq pc 10) (some (.bipush 15, 2)) none)) (cond (Nat.ble pc 12) (cond (Nat.beq pc 12) (some (.bipush 6, 2)) none) (cond (Nat.ble pc 14) (cond (Nat.beq pc 14) (some (.multianewarray 15 2, 4)) none) (cond (Nat.beq pc 18) (some (.putfield 17, 3)) none))))) (cond (Nat.ble pc 29) (cond (Nat.ble pc 22) (cond (Nat.ble pc 21) (cond (Nat.beq pc 21) (some (.aload_n 0, 1)) none) (cond (Nat.beq pc 22) (some (.bipush 15, 2)) none)) (cond (Nat.ble pc 24) (cond (Nat.beq pc 24) (some (.newarray .int, 2)) none) (cond (Nat.ble pc 26) (cond (Nat.beq pc 26) (some (.putfield 20, 3)) none) (cond (Nat.beq pc 29) (some (.aload_n 0, 1)) none)))) (cond (Nat.ble pc 34) (cond (Nat.ble pc 30) (cond (Nat.beq pc 30) (some (.aload_n 0, 1)) none) (cond (Nat.ble pc 31) (cond (Nat.beq pc 31) (some (.getfield 3, 3)) none) (cond (Nat.beq pc 34) (some (.getfield 24, 3)) none))) (cond (Nat.ble pc 37) (cond (Nat.beq pc 37) (some (.invokevirtual 28, 3)) none) (cond (Nat.ble pc 40) (cond (Nat.beq pc 40) (some (.anewarray 34, 3)) none) (cond (Nat.beq pc 43) (some (.putfield 35, 3)) none)))))) (cond (Nat.ble pc 63) (cond (Nat.ble pc 50) (cond (Nat.ble pc 47) (cond (Nat.ble pc 46) (cond (Nat.beq pc 46) (some (.iconst 0, 1)) none) (cond (Nat.beq pc 47) (some (.istore_n 2, 1)) none)) (cond (Nat.ble pc 48) (cond (Nat.beq pc 48) (some (.iload_n 2, 1)) none) (cond (Nat.ble pc 49) (cond (Nat.beq pc 49) (some (.aload_n 1, 1)) none) (cond (Nat.beq pc 50) (some (.getfield 38, 3)) none)))) (cond (Nat.ble pc 56) (cond (Nat.ble pc 53) (cond (Nat.beq pc 53) (some (.invokevirtual 28, 3)) none) (cond (Nat.beq pc 56) (some (.if_icmp .ge 293, 3)) none)) (cond (Nat.ble pc 59) (cond (Nat.beq pc 59) (some (.aload_n 1, 1)) none) (cond (Nat.ble pc 60) (cond (Nat.beq pc 60) (some (.getfield 38, 3)) none) (cond (Nat.beq pc 63) (some (.iload_n 2, 1)) none))))) (cond (Nat.ble pc 72) (cond (Nat.ble pc 67) (cond (Nat.ble pc 64) (cond (Nat.beq pc 64) (some (.invokevirtual 41, 3)) none) (cond (Nat.beq pc 67) (some (.checkcast 45, 3)) none)) (cond (Nat.ble pc 70) (cond (Nat.beq pc 70) (some (.astore_n 3, 1)) none) (cond (Nat.ble pc 71) (cond (Nat.beq pc 71) (some (.aload_n 3, 1)) none) (cond (Nat.beq pc 72) (some (.instanceof 47, 3)) none)))) (cond (Nat.ble pc 79) (cond (Nat.ble pc 75) (cond (Nat.beq pc 75) (some (.ifCond .eq 26, 3)) none) (cond (Nat.ble pc 78) (cond (Nat.beq pc 78) (some (.aload_n 3, 1)) none) (cond (Nat.beq pc 79) (some (.checkcast 47, 3)) none))) (cond (Nat.ble pc 82) (cond (Nat.beq pc 82) (some (.astore 4, 2)) none) (cond (Nat.ble pc 84) (cond (Nat.beq pc 84) (some (.aload_n 0, 1)) none) (cond (Nat.beq pc 85) (some (.aload 4, 2)) none))))))) (cond (Nat.ble pc 131) (cond (Nat.ble pc 109) (cond (Nat.ble pc 98) (cond (Nat.ble pc 90) (cond (Nat.ble pc 87) (cond (Nat.beq pc 87) (some (.getfield 49, 3)) none) (cond (Nat.beq pc 90) (some (.aload 4, 2)) none)) (cond (Nat.ble pc 92) (cond (Nat.beq pc 92) (some (.getfield 53, 3)) none) (cond (Nat.ble pc 95) (cond (Nat.beq pc 95) (some (.invokevirtual 56, 3)) none) (cond (Nat.beq pc 98) (some (.goto 245, 3)) none)))) (cond (Nat.ble pc 102) (cond (Nat.ble pc 101) (cond (Nat.beq pc 101) (some (.aload_n 3, 1)) none) (cond (Nat.beq pc 102) (some (.instanceof 60, 3)) none)) (cond (Nat.ble pc 105) (cond (Nat.beq pc 105) (some (.ifCond .eq 82, 3)) none) (cond (Nat.ble pc 108) (cond (Nat.beq pc 108) (some (.aload_n 3, 1)) none) (cond (Nat.beq pc 109) (some (.checkcast 60, 3)) none))))) (cond (Nat.ble pc 120) (cond (Nat.ble pc 114) (cond (Nat.ble pc 112) (cond (Nat.beq pc 112) (some (.astore 5, 2)) none) (cond (Nat.beq pc 114) (some (.aload_n 0, 1)) none)) (cond (Nat.ble pc 115) (cond (Nat.beq pc 115) (some (.getfield 20, 3)) none) (cond (Nat.ble pc 118) (cond (Nat.beq pc 118) (some (.aload 5, 2)) none) (cond (Nat.beq pc 120) (some (.getfield 62, 3)) none)))) (cond (Nat.ble pc 125) (cond (Nat.ble pc 123) (cond (Nat.beq pc 123) (some (.dup2, 1)) none) (cond (Nat.ble pc 124) (cond (Nat.beq pc 124) (some (.iaload, 1)) none) (cond (Nat.beq pc 125) (some (.aload 5, 2)) none))) (cond (Nat.ble pc 127) (cond (Nat.beq pc 127) (some (.getfield 65, 3)) none) (cond (Nat.ble pc 130) (cond (Nat.beq pc 130) (some (.isub, 1)) none) (cond (Nat.beq pc 131) (some (.iastore, 1)) none)))))) (cond (Nat.ble pc 152) (cond (Nat.ble pc 139) (cond (Nat.ble pc 133) (cond (Nat.ble pc 132) (cond (Nat.beq pc 132) (some (.iconst 0, 1)) none) (cond (Nat.beq pc 133) (some (.istore 8, 2)) none)) (cond (Nat.ble pc 135) (cond (Nat.beq pc 135) (some (.iload 8, 2)) none) (cond (Nat.ble pc 137) (cond (Nat.beq pc 137) (some (.aload 5, 2)) none) (cond (Nat.beq pc 139) (some (.getfield 65, 3)) none)))) (cond (Nat.ble pc 146) (cond (Nat.ble pc 142) (cond (Nat.beq pc 142) (some (.if_icmp .ge 42, 3)) none) (cond (Nat.ble pc 145) (cond (Nat.beq pc 145) (some (.aload_n 0, 1)) none) (cond (Nat.beq pc 146) (some (.aload 5, 2)) none))) (cond (Nat.ble pc 148) (cond (Nat.beq pc 148) (some (.getfield 68, 3)) none) (cond (Nat.ble pc 151) (cond (Nat.beq pc 151) (some (.aload_n 0, 1)) none) (cond (Nat.beq pc 152) (some (.getfield 17, 3)) none))))) (cond (Nat.ble pc 162) (cond (Nat.ble pc 157) (cond (Nat.ble pc 155) (cond (Nat.beq pc 155) (some (.aload 5, 2)) none) (cond (Nat.beq pc 157) (some (.getfield 62, 3)) none)) (cond (Nat.ble pc 160) (cond (Nat.beq pc 160) (some (.aaload, 1)) none) (cond (Nat.ble pc 161) (cond (Nat.beq pc 161) (some (.aload_n 0, 1)) none) (cond (Nat.beq pc 162) (some (.getfield 20, 3)) none)))) (cond (Nat.ble pc 170) (cond (Nat.ble pc 165) (cond (Nat.beq pc 165) (some (.aload 5, 2)) none) (cond (Nat.ble pc 167) (cond (Nat.beq pc 167) (some (.getfield 62, 3)) none) (cond (Nat.beq pc 170) (some (.iaload, 1)) none))) (cond (Nat.ble pc 171) (cond (Nat.beq pc 171) (some (.iload 8, 2)) none) (cond (Nat.ble pc 173) (cond (Nat.beq pc 173) (some (.iadd, 1)) none) (cond (Nat.beq pc 174) (some (.iaload, 1)) none)))))))) (cond (Nat.ble pc 261) (cond (Nat.ble pc 220) (cond (Nat.ble pc 198) (cond (Nat.ble pc 187) (cond (Nat.ble pc 178) (cond (Nat.ble pc 175) (cond (Nat.beq pc 175) (some (.invokevirtual 56, 3)) none) (cond (Nat.beq pc 178) (some (.iinc 8 1, 3)) none)) (cond (Nat.ble pc 181) (cond (Nat.beq pc 181) (some (.goto (-46), 3)) none) (cond (Nat.ble pc 184) (cond (Nat.beq pc 184) (some (.goto 159, 3)) none) (cond (Nat.beq pc 187) (some (.aload_n 3, 1)) none)))) (cond (Nat.ble pc 191) (cond (Nat.ble pc 188) (cond (Nat.beq pc 188) (some (.instanceof 71, 3)) none) (cond (Nat.beq pc 191) (some (.ifCond .eq 88, 3)) none)) (cond (Nat.ble pc 194) (cond (Nat.beq pc 194) (some (.aload_n 3, 1)) none) (cond (Nat.ble pc 195) (cond (Nat.beq pc 195) (some (.checkcast 71, 3)) none) (cond (Nat.beq pc 198) (some (.astore 6, 2)) none))))) (cond (Nat.ble pc 208) (cond (Nat.ble pc 201) (cond (Nat.ble pc 200) (cond (Nat.beq pc 200) (some (.aload_n 0, 1)) none) (cond (Nat.beq pc 201) (some (.getfield 35, 3)) none)) (cond (Nat.ble pc 204) (cond (Nat.beq pc 204) (some (.aload_n 0, 1)) none) (cond (Nat.ble pc 205) (cond (Nat.beq pc 205) (some (.getfield 73, 3)) none) (cond (Nat.beq pc 208) (some (.aload_n 0, 1)) none)))) (cond (Nat.ble pc 214) (cond (Nat.ble pc 209) (cond (Nat.beq pc 209) (some (.getfield 20, 3)) none) (cond (Nat.ble pc 212) (cond (Nat.beq pc 212) (some (.aload 6, 2)) none) (cond (Nat.beq pc 214) (some (.getfield 76, 3)) none))) (cond (Nat.ble pc 217) (cond (Nat.beq pc 217) (some (.iaload, 1)) none) (cond (Nat.ble pc 218) (cond (Nat.beq pc 218) (some (.newarray .int, 2)) none) (cond (Nat.beq pc 220) (some (.aastore, 1)) none)))))) (cond (Nat.ble pc 240) (cond (Nat.ble pc 230) (cond (Nat.ble pc 222) (cond (Nat.ble pc 221) (cond (Nat.beq pc 221) (some (.aload_n 0, 1)) none) (cond (Nat.beq pc 222) (some (.getfield 17, 3)) none)) (cond (Nat.ble pc 225) (cond (Nat.beq pc 225) (some (.aload 6, 2)) none) (cond (Nat.ble pc 227) (cond (Nat.beq pc 227) (some (.getfield 76, 3)) none) (cond (Nat.beq pc 230) (some (.aaload, 1)) none)))) (cond (Nat.ble pc 233) (cond (Nat.ble pc 231) (cond (Nat.beq pc 231) (some (.iconst 0, 1)) none) (cond (Nat.ble pc 232) (cond (Nat.beq pc 232) (some (.aload_n 0, 1)) none) (cond (Nat.beq pc 233) (some (.getfield 35, 3)) none))) (cond (Nat.ble pc 236) (cond (Nat.beq pc 236) (some (.aload_n 0, 1)) none) (cond (Nat.ble pc 237) (cond (Nat.beq pc 237) (some (.getfield 73, 3)) none) (cond (Nat.beq pc 240) (some (.aaload, 1)) none))))) (cond (Nat.ble pc 248) (cond (Nat.ble pc 242) (cond (Nat.ble pc 241) (cond (Nat.beq pc 241) (some (.iconst 0, 1)) none) (cond (Nat.beq pc 242) (some (.aload_n 0, 1)) none)) (cond (Nat.ble pc 243) (cond (Nat.beq pc 243) (some (.getfield 20, 3)) none) (cond (Nat.ble pc 246) (cond (Nat.beq pc 246) (some (.aload 6, 2)) none) (cond (Nat.beq pc 248) (some (.getfield 76, 3)) none)))) (cond (Nat.ble pc 255) (cond (Nat.ble pc 251) (cond (Nat.beq pc 251) (some (.iaload, 1)) none) (cond (Nat.ble pc 252) (cond (Nat.beq pc 252) (some (.invokestatic 77, 3)) none) (cond (Nat.beq pc 255) (some (.aload_n 0, 1)) none))) (cond (Nat.ble pc 256) (cond (Nat.beq pc 256) (some (.getfield 20, 3)) none) (cond (Nat.ble pc 259) (cond (Nat.beq pc 259) (some (.aload 6, 2)) none) (cond (Nat.beq pc 261) (some (.getfield 76, 3)) none))))))) (cond (Nat.ble pc 302) (cond (Nat.ble pc 279) (cond (Nat.ble pc 268) (cond (Nat.ble pc 265) (cond (Nat.ble pc 264) (cond (Nat.beq pc 264) (some (.iconst 0, 1)) none) (cond (Nat.beq pc 265) (some (.iastore, 1)) none)) (cond (Nat.ble pc 266) (cond (Nat.beq pc 266) (some (.aload_n 0, 1)) none) (cond (Nat.ble pc 267) (cond (Nat.beq pc 267) (some (.dup, 1)) none) (cond (Nat.beq pc 268) (some (.getfield 73, 3)) none)))) (cond (Nat.ble pc 272) (cond (Nat.ble pc 271) (cond (Nat.beq pc 271) (some (.iconst 1, 1)) none) (cond (Nat.beq pc 272) (some (.iadd, 1)) none)) (cond (Nat.ble pc 273) (cond (Nat.beq pc 273) (some (.putfield 73, 3)) none) (cond (Nat.ble pc 276) (cond (Nat.beq pc 276) (some (.goto 67, 3)) none) (cond (Nat.beq pc 279) (some (.aload_n 3, 1)) none))))) (cond (Nat.ble pc 290) (cond (Nat.ble pc 283) (cond (Nat.ble pc 280) (cond (Nat.beq pc 280) (some (.instanceof 83, 3)) none) (cond (Nat.beq pc 283) (some (.ifCond .eq 60, 3)) none)) (cond (Nat.ble pc 286) (cond (Nat.beq pc 286) (some (.aload_n 3, 1)) none) (cond (Nat.ble pc 287) (cond (Nat.beq pc 287) (some (.checkcast 83, 3)) none) (cond (Nat.beq pc 290) (some (.astore 7, 2)) none)))) (cond (Nat.ble pc 296) (cond (Nat.ble pc 292) (cond (Nat.beq pc 292) (some (.aload_n 0, 1)) none) (cond (Nat.ble pc 293) (cond (Nat.beq pc 293) (some (.getfield 35, 3)) none) (cond (Nat.beq pc 296) (some (.aload 7, 2)) none))) (cond (Nat.ble pc 298) (cond (Nat.beq pc 298) (some (.getfield 85, 3)) none) (cond (Nat.ble pc 301) (cond (Nat.beq pc 301) (some (.aaload, 1)) none) (cond (Nat.beq pc 302) (some (.astore 8, 2)) none)))))) (cond (Nat.ble pc 323) (cond (Nat.ble pc 310) (cond (Nat.ble pc 306) (cond (Nat.ble pc 304) (cond (Nat.beq pc 304) (some (.aload 8, 2)) none) (cond (Nat.beq pc 306) (some (.arraylength, 1)) none)) (cond (Nat.ble pc 307) (cond (Nat.beq pc 307) (some (.istore 9, 2)) none) (cond (Nat.ble pc 309) (cond (Nat.beq pc 309) (some (.iconst 0, 1)) none) (cond (Nat.beq pc 310) (some (.istore 10, 2)) none)))) (cond (Nat.ble pc 316) (cond (Nat.ble pc 312) (cond (Nat.beq pc 312) (some (.iload 10, 2)) none) (cond (Nat.ble pc 314) (cond (Nat.beq pc 314) (some (.iload 9, 2)) none) (cond (Nat.beq pc 316) (some (.if_icmp .ge 27, 3)) none))) (cond (Nat.ble pc 319) (cond (Nat.beq pc 319) (some (.aload 8, 2)) none) (cond (Nat.ble pc 321) (cond (Nat.beq pc 321) (some (.iload 10, 2)) none) (cond (Nat.beq pc 323) (some (.iaload, 1)) none))))) (cond (Nat.ble pc 332) (cond (Nat.ble pc 326) (cond (Nat.ble pc 324) (cond (Nat.beq pc 324) (some (.istore 11, 2)) none) (cond (Nat.beq pc 326) (some (.aload_n 0, 1)) none)) (cond (Nat.ble pc 327) (cond (Nat.beq pc 327) (some (.aload 7, 2)) none) (cond (Nat.ble pc 329) (cond (Nat.beq pc 329) (some (.getfield 88, 3)) none) (cond (Nat.beq pc 332) (some (.iload 11, 2)) none)))) (cond (Nat.ble pc 340) (cond (Nat.ble pc 334) (cond (Nat.beq pc 334) (some (.invokevirtual 56, 3)) none) (cond (Nat.ble pc 337) (cond (Nat.beq pc 337) (some (.iinc 10 1, 3)) none) (cond (Nat.beq pc 340) (some (.goto (-28), 3)) none))) (cond (Nat.ble pc 343) (cond (Nat.beq pc 343) (some (.iinc 2 1, 3)) none) (cond (Nat.ble pc 346) (cond (Nat.beq pc 346) (some (.goto (-298), 3)) none) (cond (Nat.beq pc 349) (some (.return_, 1)) none)))))))))
theorem tkX8_init : tkAll cX8_init tbX8_init := fun pc => (tk_b (tk_b (tk_b (tk_b (tk_b (tk_b (tk_b (tk_l dX8_init_0) (tk_l dX8_init_1)) (tk_b (tk_l dX8_init_2) (tk_b (tk_l dX8_init_5) (tk_l dX8_init_6)))) (tk_b (tk_b (tk_l dX8_init_9) (tk_l dX8_init_10)) (tk_b (tk_l dX8_init_12) (tk_b (tk_l dX8_init_14) (tk_l dX8_init_18))))) (tk_b (tk_b (tk_b (tk_l dX8_init_21) (tk_l dX8_init_22)) (tk_b (tk_l dX8_init_24) (tk_b (tk_l dX8_init_26) (tk_l dX8_init_29)))) (tk_b (tk_b (tk_l dX8_init_30) (tk_b (tk_l dX8_init_31) (tk_l dX8_init_34))) (tk_b (tk_l dX8_init_37) (tk_b (tk_l dX8_init_40) (tk_l dX8_init_43)))))) (tk_b (tk_b (tk_b (tk_b (tk_l dX8_init_46) (tk_l dX8_init_47)) (tk_b (tk_l dX8_init_48) (tk_b (tk_l dX8_init_49) (tk_l dX8_init_50)))) (tk_b (tk_b (tk_l dX8_init_53) (tk_l dX8_init_56)) (tk_b (tk_l dX8_init_59) (tk_b (tk_l dX8_init_60) (tk_l dX8_init_63))))) (tk_b (tk_b (tk_b (tk_l dX8_init_64) (tk_l dX8_init_67)) (tk_b (tk_l dX8_init_70) (tk_b (tk_l dX8_init_71) (tk_l dX8_init_72)))) (tk_b (tk_b (tk_l dX8_init_75) (tk_b (tk_l dX8_init_78) (tk_l dX8_init_79))) (tk_b (tk_l dX8_init_82) (tk_b (tk_l dX8_init_84) (tk_l dX8_init_85))))))) (tk_b (tk_b (tk_b (tk_b (tk_b (tk_l dX8_init_87) (tk_l dX8_init_90)) (tk_b (tk_l dX8_init_92) (tk_b (tk_l dX8_init_95) (tk_l dX8_init_98)))) (tk_b (tk_b (tk_l dX8_init_101) (tk_l dX8_init_102)) (tk_b (tk_l dX8_init_105) (tk_b (tk_l dX8_init_108) (tk_l dX8_init_109))))) (tk_b (tk_b (tk_b (tk_l dX8_init_112) (tk_l dX8_init_114)) (tk_b (tk_l dX8_init_115) (tk_b (tk_l dX8_init_118) (tk_l dX8_init_120)))) (tk_b (tk_b (tk_l dX8_init_123) (tk_b (tk_l dX8_init_124) (tk_l dX8_init_125))) (tk_b (tk_l dX8_init_127) (tk_b (tk_l dX8_init_130) (tk_l dX8_init_131)))))) (tk_b (tk_b (tk_b (tk_b (tk_l dX8_init_132) (tk_l dX8_init_133)) (tk_b (tk_l dX8_init_135) (tk_b (tk_l dX8_init_137) (tk_l dX8_init_139)))) (tk_b (tk_b (tk_l dX8_init_142) (tk_b (tk_l dX8_init_145) (tk_l dX8_init_146))) (tk_b (tk_l dX8_init_148) (tk_b (tk_l dX8_init_151) (tk_l dX8_init_152))))) (tk_b (tk_b (tk_b (tk_l dX8_init_155) (tk_l dX8_init_157)) (tk_b (tk_l dX8_init_160) (tk_b (tk_l dX8_init_161) (tk_l dX8_init_162)))) (tk_b (tk_b (tk_l dX8_init_165) (tk_b (tk_l dX8_init_167) (tk_l dX8_init_170))) (tk_b (tk_l dX8_init_171) (tk_b (tk_l dX8_init_173) (tk_l dX8_init_174)))))))) (tk_b (tk_b (tk_b (tk_b (tk_b (tk_b (tk_l dX8_init_175) (tk_l dX8_init_178)) (tk_b (tk_l dX8_init_181) (tk_b (tk_l dX8_init_184) (tk_l dX8_init_187)))) (tk_b (tk_b (tk_l dX8_init_188) (tk_l dX8_init_191)) (tk_b (tk_l dX8_init_194) (tk_b (tk_l dX8_init_195) (tk_l dX8_init_198))))) (tk_b (tk_b (tk_b (tk_l dX8_init_200) (tk_l dX8_init_201)) (tk_b (tk_l dX8_init_204) (tk_b (tk_l dX8_init_205) (tk_l dX8_init_208)))) (tk_b (tk_b (tk_l dX8_init_209) (tk_b (tk_l dX8_init_212) (tk_l dX8_init_214))) (tk_b (tk_l dX8_init_217) (tk_b (tk_l dX8_init_218) (tk_l dX8_init_220)))))) (tk_b (tk_b (tk_b (tk_b (tk_l dX8_init_221) (tk_l dX8_init_222)) (tk_b (tk_l dX8_init_225) (tk_b (tk_l dX8_init_227) (tk_l dX8_init_230)))) (tk_b (tk_b (tk_l dX8_init_231) (tk_b (tk_l dX8_init_232) (tk_l dX8_init_233))) (tk_b (tk_l dX8_init_236) (tk_b (tk_l dX8_init_237) (tk_l dX8_init_240))))) (tk_b (tk_b (tk_b (tk_l dX8_init_241) (tk_l dX8_init_242)) (tk_b (tk_l dX8_init_243) (tk_b (tk_l dX8_init_246) (tk_l dX8_init_248)))) (tk_b (tk_b (tk_l dX8_init_251) (tk_b (tk_l dX8_init_252) (tk_l dX8_init_255))) (tk_b (tk_l dX8_init_256) (tk_b (tk_l dX8_init_259) (tk_l dX8_init_261))))))) (tk_b (tk_b (tk_b (tk_b (tk_b (tk_l dX8_init_264) (tk_l dX8_init_265)) (tk_b (tk_l dX8_init_266) (tk_b (tk_l dX8_init_267) (tk_l dX8_init_268)))) (tk_b (tk_b (tk_l dX8_init_271) (tk_l dX8_init_272)) (tk_b (tk_l dX8_init_273) (tk_b (tk_l dX8_init_276) (tk_l dX8_init_279))))) (tk_b (tk_b (tk_b (tk_l dX8_init_280) (tk_l dX8_init_283)) (tk_b (tk_l dX8_init_286) (tk_b (tk_l dX8_init_287) (tk_l dX8_init_290)))) (tk_b (tk_b (tk_l dX8_init_292) (tk_b (tk_l dX8_init_293) (tk_l dX8_init_296))) (tk_b (tk_l dX8_init_298) (tk_b (tk_l dX8_init_301) (tk_l dX8_init_302)))))) (tk_b (tk_b (tk_b (tk_b (tk_l dX8_init_304) (tk_l dX8_init_306)) (tk_b (tk_l dX8_init_307) (tk_b (tk_l dX8_init_309) (tk_l dX8_init_310)))) (tk_b (tk_b (tk_l dX8_init_312) (tk_b (tk_l dX8_init_314) (tk_l dX8_init_316))) (tk_b (tk_l dX8_init_319) (tk_b (tk_l dX8_init_321) (tk_l dX8_init_323))))) (tk_b (tk_b (tk_b (tk_l dX8_init_324) (tk_l dX8_init_326)) (tk_b (tk_l dX8_init_327) (tk_b (tk_l dX8_init_329) (tk_l dX8_init_332)))) (tk_b (tk_b (tk_l dX8_init_334) (tk_b (tk_l dX8_init_337) (tk_l dX8_init_340))) (tk_b (tk_l dX8_init_343) (tk_b (tk_l dX8_init_346) (tk_l dX8_init_349)))))))))
def tbX8_put (pc : Nat) : Option (Instr × Nat) := (cond (Nat.ble pc 12) (cond (Nat.ble pc 5) (cond (Nat.ble pc 1) (cond (Nat.ble pc 0) (cond (Nat.beq pc 0) (some (.aload_n 0, 1)) none) (cond (Nat.beq pc 1) (some (.getfield 17, 3)) none)) (cond (Nat.ble pc 4) (cond (Nat.beq pc 4) (some (.iload_n 1, 1)) none) (cond (Nat.beq pc 5) (some (.aaload, 1)) none))) (cond (Nat.ble pc 7) (cond (Nat.ble pc 6) (cond (Nat.beq pc 6) (some (.aload_n 0, 1)) none) (cond (Nat.beq pc 7) (some (.getfield 20, 3)) none)) (cond (Nat.ble pc 10) (cond (Nat.beq pc 10) (some (.iload_n 1, 1)) none) (cond (Nat.ble pc 11) (cond (Nat.beq pc 11) (some (.iaload, 1)) none) (cond (Nat.beq pc 12) (some (.iload_n 2, 1)) none))))) (cond (Nat.ble pc 19) (cond (Nat.ble pc 14) (cond (Nat.ble pc 13) (cond (Nat.beq pc 13) (some (.iastore, 1)) none) (cond (Nat.beq pc 14) (some (.aload_n 0, 1)) none)) (cond (Nat.ble pc 15) (cond (Nat.beq pc 15) (some (.getfield 20, 3)) none) (cond (Nat.ble pc 18) (cond (Nat.beq pc 18) (some (.iload_n 1, 1)) none) (cond (Nat.beq pc 19) (some (.dup2, 1)) none)))) (cond (Nat.ble pc 21) (cond (Nat.ble pc 20) (cond (Nat.beq pc 20) (some (.iaload, 1)) none) (cond (Nat.beq pc 21) (some (.iconst 1, 1)) none)) (cond (Nat.ble pc 22) (cond (Nat.beq pc 22) (some (.iadd, 1)) none) (cond (Nat.ble pc 23) (cond (Nat.beq pc 23) (some (.iastore, 1)) none) (cond (Nat.beq pc 24) (some (.return_, 1)) none))))))
theorem tkX8_put : tkAll cX8_put tbX8_put := fun pc => (tk_b (tk_b (tk_b (tk_b (tk_l dX8_put_0) (tk_l dX8_put_1)) (tk_b (tk_l dX8_put_4) (tk_l dX8_put_5))) (tk_b (tk_b (tk_l dX8_put_6) (tk_l dX8_put_7)) (tk_b (tk_l dX8_put_10) (tk_b (tk_l dX8_put_11) (tk_l dX8_put_12))))) (tk_b (tk_b (tk_b (tk_l dX8_put_13) (tk_l dX8_put_14)) (tk_b (tk_l dX8_put_15) (tk_b (tk_l dX8_put_18) (tk_l dX8_put_19)))) (tk_b (tk_b (tk_l dX8_put_20) (tk_l dX8_put_21)) (tk_b (tk_l dX8_put_22) (tk_b (tk_l dX8_put_23) (tk_l dX8_put_24))))))
def tbX9_init (pc : Nat) : Option (Instr × Nat) := (cond (Nat.ble pc 25) (cond (Nat.ble pc 11) (cond (Nat.ble pc 5) (cond (Nat.ble pc 1) (cond (Nat.ble pc 0) (cond (Nat.beq pc 0) (some (.aload_n 0, 1)) none) (cond (Nat.beq pc 1) (some (.invokespecial 1, 3)) none)) (cond (Nat.ble pc 4) (cond (Nat.beq pc 4) (some (.aload_n 0, 1)) none) (cond (Nat.beq pc 5) (some (.iconst 1, 1)) none))) (cond (Nat.ble pc 9) (cond (Nat.ble pc 6) (cond (Nat.beq pc 6) (some (.putfield 7, 3)) none) (cond (Nat.beq pc 9) (some (.aload_n 0, 1)) none)) (cond (Nat.ble pc 10) (cond (Nat.beq pc 10) (some (.iload_n 1, 1)) none) (cond (Nat.beq pc 11) (some (.putfield 13, 3)) none)))) (cond (Nat.ble pc 19) (cond (Nat.ble pc 15) (cond (Nat.ble pc 14) (cond (Nat.beq pc 14) (some (.aload_n 0, 1)) none) (cond (Nat.beq pc 15) (some (.iload_n 2, 1)) none)) (cond (Nat.ble pc 16) (cond (Nat.beq pc 16) (some (.putfield 17, 3)) none) (cond (Nat.beq pc 19) (some (.aload_n 0, 1)) none))) (cond (Nat.ble pc 21) (cond (Nat.ble pc 20) (cond (Nat.beq pc 20) (some (.iload_n 3, 1)) none) (cond (Nat.beq pc 21) (some (.putfield 20, 3)) none)) (cond (Nat.ble pc 24) (cond (Nat.beq pc 24) (some (.aload_n 0, 1)) none) (cond (Nat.beq pc 25) (some (.aload 4, 2)) none))))) (cond (Nat.ble pc 47) (cond (Nat.ble pc 35) (cond (Nat.ble pc 30) (cond (Nat.ble pc 27) (cond (Nat.beq pc 27) (some (.putfield 23, 3)) none) (cond (Nat.beq pc 30) (some (.aload 4, 2)) none)) (cond (Nat.ble pc 32) (cond (Nat.beq pc 32) (some (.invokevirtual 27, 3)) none) (cond (Nat.beq pc 35) (some (.astore 5, 2)) none))) (cond (Nat.ble pc 39) (cond (Nat.ble pc 37) (cond (Nat.beq pc 37) (some (.aload 5, 2)) none) (cond (Nat.beq pc 39) (some (.invokeinterface 33 1, 5)) none)) (cond (Nat.ble pc 44) (cond (Nat.beq pc 44) (some (.ifCond .eq 24, 3)) none) (cond (Nat.beq pc 47) (some (.aload 5, 2)) none)))) (cond (Nat.ble pc 59) (cond (Nat.ble pc 54) (cond (Nat.ble pc 49) (cond (Nat.beq pc 49) (some (.invokeinterface 39 1, 5)) none) (cond (Nat.beq pc 54) (some (.checkcast 43, 3)) none)) (cond (Nat.ble pc 57) (cond (Nat.beq pc 57) (some (.astore 6, 2)) none) (cond (Nat.beq pc 59) (some (.aload 6, 2)) none))) (cond (Nat.ble pc 62) (cond (Nat.ble pc 61) (cond (Nat.beq pc 61) (some (.aload_n 0, 1)) none) (cond (Nat.beq pc 62) (some (.putfield 45, 3)) none)) (cond (Nat.ble pc 65) (cond (Nat.beq pc 65) (some (.goto (-28), 3)) none) (cond (Nat.beq pc 68) (some (.return_, 1)) none))))))
theorem tkX9_init : tkAll cX9_init tbX9_init := fun pc => (tk_b (tk_b (tk_b (tk_b (tk_b (tk_l dX9_init_0) (tk_l dX9_init_1)) (tk_b (tk_l dX9_init_4) (tk_l dX9_init_5))) (tk_b (tk_b (tk_l dX9_init_6) (tk_l dX9_init_9)) (tk_b (tk_l dX9_init_10) (tk_l dX9_init_11)))) (tk_b (tk_b (tk_b (tk_l dX9_init_14) (tk_l dX9_init_15)) (tk_b (tk_l dX9_init_16) (tk_l dX9_init_19))) (tk_b (tk_b (tk_l dX9_init_20) (tk_l dX9_init_21)) (tk_b (tk_l dX9_init_24) (tk_l dX9_init_25))))) (tk_b (tk_b (tk_b (tk_b (tk_l dX9_init_27) (tk_l dX9_init_30)) (tk_b (tk_l dX9_init_32) (tk_l dX9_init_35))) (tk_b (tk_b (tk_l dX9_init_37) (tk_l dX9_init_39)) (tk_b (tk_l dX9_init_44) (tk_l dX9_init_47)))) (tk_b (tk_b (tk_b (tk_l dX9_init_49) (tk_l dX9_init_54)) (tk_b (tk_l dX9_init_57) (tk_l dX9_init_59))) (tk_b (tk_b (tk_l dX9_init_61) (tk_l dX9_init_62)) (tk_b (tk_l dX9_init_65) (tk_l dX9_init_68))))))
def tbX9_end (pc : Nat) : Option (Instr × Nat) := (cond (Nat.ble pc 18) (cond (Nat.ble pc 6) (cond (Nat.ble pc 1) (cond (Nat.ble pc 0) (cond (Nat.beq pc 0) (some (.aload_n 0, 1)) none) (cond (Nat.beq pc 1) (some (.iconst 0, 1)) none)) (cond (Nat.ble pc 2) (cond (Nat.beq pc 2) (some (.putfield 7, 3)) none) (cond (Nat.ble pc 5) (cond (Nat.beq pc 5) (some (.aload_n 0, 1)) none) (cond (Nat.beq pc 6) (some (.aconst_null, 1)) none)))) (cond (Nat.ble pc 11) (cond (Nat.ble pc 7) (cond (Nat.beq pc 7) (some (.putfield 49, 3)) none) (cond (Nat.ble pc 10) (cond (Nat.beq pc 10) (some (.aload_n 0, 1)) none) (cond (Nat.beq pc 11) (some (.getfield 23, 3)) none))) (cond (Nat.ble pc 14) (cond (Nat.beq pc 14) (some (.invokevirtual 27, 3)) none) (cond (Nat.ble pc 17) (cond (Nat.beq pc 17) (some (.astore_n 1, 1)) none) (cond (Nat.beq pc 18) (some (.aload_n 1, 1)) none))))) (cond (Nat.ble pc 33) (cond (Nat.ble pc 24) (cond (Nat.ble pc 19) (cond (Nat.beq pc 19) (some (.invokeinterface 33 1, 5)) none) (cond (Nat.beq pc 24) (some (.ifCond .eq 21, 3)) none)) (cond (Nat.ble pc 27) (cond (Nat.beq pc 27) (some (.aload_n 1, 1)) none) (cond (Nat.ble pc 28) (cond (Nat.beq pc 28) (some (.invokeinterface 39 1, 5)) none) (cond (Nat.beq pc 33) (some (.checkcast 43, 3)) none)))) (cond (Nat.ble pc 38) (cond (Nat.ble pc 36) (cond (Nat.beq pc 36) (some (.astore_n 2, 1)) none) (cond (Nat.ble pc 37) (cond (Nat.beq pc 37) (some (.aload_n 2, 1)) none) (cond (Nat.beq pc 38) (some (.aconst_null, 1)) none))) (cond (Nat.ble pc 39) (cond (Nat.beq pc 39) (some (.putfield 45, 3)) none) (cond (Nat.ble pc 42) (cond (Nat.beq pc 42) (some (.goto (-24), 3)) none) (cond (Nat.beq pc 45) (some (.return_, 1)) none))))))
theorem tkX9_end : tkAll cX9_end tbX9_end := fun pc => (tk_b (tk_b (tk_b (tk_b (tk_l dX9_end_0) (tk_l dX9_end_1)) (tk_b (tk_l dX9_end_2) (tk_b (tk_l dX9_end_5) (tk_l dX9_end_6)))) (tk_b (tk_b (tk_l dX9_end_7) (tk_b (tk_l dX9_end_10) (tk_l dX9_end_11))) (tk_b (tk_l dX9_end_14) (tk_b (tk_l dX9_end_17) (tk_l dX9_end_18))))) (tk_b (tk_b (tk_b (tk_l dX9_end_19) (tk_l dX9_end_24)) (tk_b (tk_l dX9_end_27) (tk_b (tk_l dX9_end_28) (tk_l dX9_end_33)))) (tk_b (tk_b (tk_l dX9_end_36) (tk_b (tk_l dX9_end_37) (tk_l dX9_end_38))) (tk_b (tk_l dX9_end_39) (tk_b (tk_l dX9_end_42) (tk_l dX9_end_45))))))
def tbX10_init (pc : Nat) : Option (Instr × Nat) := (cond (Nat.ble pc 22) (cond (Nat.ble pc 8) (cond (Nat.ble pc 1) (cond (Nat.ble pc 0) (cond (Nat.beq pc 0) (some (.aload_n 0, 1)) none) (cond (Nat.beq pc 1) (some (.invokespecial 1, 3)) none)) (cond (Nat.ble pc 4) (cond (Nat.beq pc 4) (some (.aload_n 0, 1)) none) (cond (Nat.ble pc 5) (cond (Nat.beq pc 5) (some (.new 7, 3)) none) (cond (Nat.beq pc 8) (some (.dup, 1)) none)))) (cond (Nat.ble pc 15) (cond (Nat.ble pc 9) (cond (Nat.beq pc 9) (some (.invokespecial 9, 3)) none) (cond (Nat.ble pc 12) (cond (Nat.beq pc 12) (some (.putfield 10, 3)) none) (cond (Nat.beq pc 15) (some (.aload_n 0, 1)) none))) (cond (Nat.ble pc 16) (cond (Nat.beq pc 16) (some (.getstatic 16, 3)) none) (cond (Nat.ble pc 19) (cond (Nat.beq pc 19) (some (.putfield 22, 3)) none) (cond (Nat.beq pc 22) (some (.aload_n 0, 1)) none))))) (cond (Nat.ble pc 32) (cond (Nat.ble pc 27) (cond (Nat.ble pc 23) (cond (Nat.beq pc 23) (some (.iload_n 1, 1)) none) (cond (Nat.ble pc 24) (cond (Nat.beq pc 24) (some (.putfield 25, 3)) none) (cond (Nat.beq pc 27) (some (.aload_n 0, 1)) none))) (cond (Nat.ble pc 28) (cond (Nat.beq pc 28) (some (.iload_n 2, 1)) none) (cond (Nat.ble pc 29) (cond (Nat.beq pc 29) (some (.putfield 29, 3)) none) (cond (Nat.beq pc 32) (some (.aload_n 0, 1)) none)))) (cond (Nat.ble pc 37) (cond (Nat.ble pc 33) (cond (Nat.beq pc 33) (some (.iload_n 3, 1)) none) (cond (Nat.ble pc 34) (cond (Nat.beq pc 34) (some (.putfield 32, 3)) none) (cond (Nat.beq pc 37) (some (.aload_n 0, 1)) none))) (cond (Nat.ble pc 38) (cond (Nat.beq pc 38) (some (.iload 4, 2)) none) (cond (Nat.ble pc 40) (cond (Nat.beq pc 40) (some (.putfield 35, 3)) none) (cond (Nat.beq pc 43) (some (.return_, 1)) none))))))
theorem tkX10_init : tkAll cX10_init tbX10_init := fun pc => (tk_b (tk_b (tk_b (tk_b (tk_l dX10_init_0) (tk_l dX10_init_1)) (tk_b (tk_l dX10_init_4) (tk_b (tk_l dX10_init_5) (tk_l dX10_init_8)))) (tk_b (tk_b (tk_l dX10_init_9) (tk_b (tk_l dX10_init_12) (tk_l dX10_init_15))) (tk_b (tk_l dX10_init_16) (tk_b (tk_l dX10_init_19) (tk_l dX10_init_22))))) (tk_b (tk_b (tk_b (tk_l dX10_init_23) (tk_b (tk_l dX10_init_24) (tk_l dX10_init_27))) (tk_b (tk_l dX10_init_28) (tk_b (tk_l dX10_init_29) (tk_l dX10_init_32)))) (tk_b (tk_b (tk_l dX10_init_33) (tk_b (tk_l dX10_init_34) (tk_l dX10_init_37))) (tk_b (tk_l dX10_init_38) (tk_b (tk_l dX10_init_40) (tk_l dX10_init_43))))))
def tbX10_become (pc : Nat) : Option (Instr × Nat) := (cond (Nat.ble pc 28) (cond (Nat.ble pc 9) (cond (Nat.ble pc 2) (cond (Nat.ble pc 0) (cond (Nat.beq pc 0) (some (.aload_n 0, 1)) none) (cond (Nat.ble pc 1) (cond (Nat.beq pc 1) (some (.aload_n 1, 1)) none) (cond (Nat.beq pc 2) (some (.putfield 22, 3)) none))) (cond (Nat.ble pc 5) (cond (Nat.beq pc 5) (some (.aload_n 0, 1)) none) (cond (Nat.ble pc 6) (cond (Nat.beq pc 6) (some (.getfield 10, 3)) none) (cond (Nat.beq pc 9) (some (.invokevirtual 38, 3)) none)))) (cond (Nat.ble pc 14) (cond (Nat.ble pc 12) (cond (Nat.beq pc 12) (some (.astore_n 2, 1)) none) (cond (Nat.ble pc 13) (cond (Nat.beq pc 13) (some (.aload_n 2, 1)) none) (cond (Nat.beq pc 14) (some (.invokeinterface 42 1, 5)) none))) (cond (Nat.ble pc 22) (cond (Nat.ble pc 19) (cond (Nat.beq pc 19) (some (.ifCond .eq 32, 3)) none) (cond (Nat.beq pc 22) (some (.aload_n 2, 1)) none)) (cond (Nat.ble pc 23) (cond (Nat.beq pc 23) (some (.invokeinterface 48 1, 5)) none) (cond (Nat.beq pc 28) (some (.checkcast 52, 3)) none))))) (cond (Nat.ble pc 41) (cond (Nat.ble pc 33) (cond (Nat.ble pc 31) (cond (Nat.beq pc 31) (some (.astore_n 3, 1)) none) (cond (Nat.ble pc 32) (cond (Nat.beq pc 32) (some (.aload_n 3, 1)) none) (cond (Nat.beq pc 33) (some (.aload_n 1, 1)) none))) (cond (Nat.ble pc 37) (cond (Nat.ble pc 34) (cond (Nat.beq pc 34) (some (.invokevirtual 54, 3)) none) (cond (Nat.beq pc 37) (some (.ifCond .eq 7, 3)) none)) (cond (Nat.ble pc 40) (cond (Nat.beq pc 40) (some (.aload_n 0, 1)) none) (cond (Nat.beq pc 41) (some (.goto 4, 3)) none)))) (cond (Nat.ble pc 48) (cond (Nat.ble pc 44) (cond (Nat.beq pc 44) (some (.aconst_null, 1)) none) (cond (Nat.ble pc 45) (cond (Nat.beq pc 45) (some (.putfield 57, 3)) none) (cond (Nat.beq pc 48) (some (.goto (-35), 3)) none))) (cond (Nat.ble pc 52) (cond (Nat.ble pc 51) (cond (Nat.beq pc 51) (some (.aload_n 0, 1)) none) (cond (Nat.beq pc 52) (some (.getfield 10, 3)) none)) (cond (Nat.ble pc 55) (cond (Nat.beq pc 55) (some (.invokevirtual 61, 3)) none) (cond (Nat.beq pc 58) (some (.ireturn, 1)) none))))))
theorem tkX10_become : tkAll cX10_become tbX10_become := fun pc => (tk_b (tk_b (tk_b (tk_b (tk_l dX10_become_0) (tk_b (tk_l dX10_become_1) (tk_l dX10_become_2))) (tk_b (tk_l dX10_become_5) (tk_b (tk_l dX10_become_6) (tk_l dX10_become_9)))) (tk_b (tk_b (tk_l dX10_become_12) (tk_b (tk_l dX10_become_13) (tk_l dX10_become_14))) (tk_b (tk_b (tk_l dX10_become_19) (tk_l dX10_become_22)) (tk_b (tk_l dX10_become_23) (tk_l dX10_become_28))))) (tk_b (tk_b (tk_b (tk_l dX10_become_31) (tk_b (tk_l dX10_become_32) (tk_l dX10_become_33))) (tk_b (tk_b (tk_l dX10_become_34) (tk_l dX10_become_37)) (tk_b (tk_l dX10_become_40) (tk_l dX10_become_41)))) (tk_b (tk_b (tk_l dX10_become_44) (tk_b (tk_l dX10_become_45) (tk_l dX10_become_48))) (tk_b (tk_b (tk_l dX10_become_51) (tk_l dX10_become_52)) (tk_b (tk_l dX10_become_55) (tk_l dX10_become_58))))))
def tbX11_promises (pc : Nat) : Option (Instr × Nat) := (cond (Nat.ble pc 0) (cond (Nat.beq pc 0) (some (.iconst 1, 1)) none) (cond (Nat.beq pc 1) (some (.ireturn, 1)) none))
theorem tkX11_promises : tkAll cX11_promises tbX11_promises := fun pc => (tk_b (tk_l dX11_promises_0) (tk_l dX11_promises_1))
def tbX11_canDepart (pc : Nat) : Option (Instr × Nat) := (cond (Nat.ble pc 0) (cond (Nat.beq pc 0) (some (.iconst 0, 1)) none) (cond (Nat.beq pc 1) (some (.ireturn, 1)) none))
theorem tkX11_canDepart : tkAll cX11_canDepart tbX11_canDepart := fun pc => (tk_b (tk_l dX11_canDepart_0) (tk_l dX11_canDepart_1))
def tbX12_init (pc : Nat) : Option (Instr × Nat) := (cond (Nat.ble pc 5) (cond (Nat.ble pc 1) (cond (Nat.ble pc 0) (cond (Nat.beq pc 0) (some (.aload_n 0, 1)) none) (cond (Nat.beq pc 1) (some (.invokespecial 1, 3)) none)) (cond (Nat.ble pc 4) (cond (Nat.beq pc 4) (some (.aload_n 0, 1)) none) (cond (Nat.beq pc 5) (some (.aload_n 1, 1)) none))) (cond (Nat.ble pc 9) (cond (Nat.ble pc 6) (cond (Nat.beq pc 6) (some (.putfield 7, 3)) none) (cond (Nat.beq pc 9) (some (.aload_n 0, 1)) none)) (cond (Nat.ble pc 10) (cond (Nat.beq pc 10) (some (.iload_n 2, 1)) none) (cond (Nat.ble pc 11) (cond (Nat.beq pc 11) (some (.putfield 13, 3)) none) (cond (Nat.beq pc 14) (some (.return_, 1)) none)))))
theorem tkX12_init : tkAll cX12_init tbX12_init := fun pc => (tk_b (tk_b (tk_b (tk_l dX12_init_0) (tk_l dX12_init_1)) (tk_b (tk_l dX12_init_4) (tk_l dX12_init_5))) (tk_b (tk_b (tk_l dX12_init_6) (tk_l dX12_init_9)) (tk_b (tk_l dX12_init_10) (tk_b (tk_l dX12_init_11) (tk_l dX12_init_14)))))
def tbX13_init (pc : Nat) : Option (Instr × Nat) := (cond (Nat.ble pc 4) (cond (Nat.ble pc 0) (cond (Nat.beq pc 0) (some (.aload_n 0, 1)) none) (cond (Nat.ble pc 1) (cond (Nat.beq pc 1) (some (.invokespecial 1, 3)) none) (cond (Nat.beq pc 4) (some (.aload_n 0, 1)) none))) (cond (Nat.ble pc 5) (cond (Nat.beq pc 5) (some (.iload_n 1, 1)) none) (cond (Nat.ble pc 6) (cond (Nat.beq pc 6) (some (.putfield 7, 3)) none) (cond (Nat.beq pc 9) (some (.return_, 1)) none))))
theorem tkX13_init : tkAll cX13_init tbX13_init := fun pc => (tk_b (tk_b (tk_l dX13_init_0) (tk_b (tk_l dX13_init_1) (tk_l dX13_init_4))) (tk_b (tk_l dX13_init_5) (tk_b (tk_l dX13_init_6) (tk_l dX13_init_9))))
def tbX14_init (pc : Nat) : Option (Instr × Nat) := (cond (Nat.ble pc 5) (cond (Nat.ble pc 1) (cond (Nat.ble pc 0) (cond (Nat.beq pc 0) (some (.aload_n 0, 1)) none) (cond (Nat.beq pc 1) (some (.invokespecial 1, 3)) none)) (cond (Nat.ble pc 4) (cond (Nat.beq pc 4) (some (.aload_n 0, 1)) none) (cond (Nat.beq pc 5) (some (.iload_n 1, 1)) none))) (cond (Nat.ble pc 9) (cond (Nat.ble pc 6) (cond (Nat.beq pc 6) (some (.putfield 7, 3)) none) (cond (Nat.beq pc 9) (some (.aload_n 0, 1)) none)) (cond (Nat.ble pc 10) (cond (Nat.beq pc 10) (some (.iload_n 2, 1)) none) (cond (Nat.ble pc 11) (cond (Nat.beq pc 11) (some (.putfield 13, 3)) none) (cond (Nat.beq pc 14) (some (.return_, 1)) none)))))
theorem tkX14_init : tkAll cX14_init tbX14_init := fun pc => (tk_b (tk_b (tk_b (tk_l dX14_init_0) (tk_l dX14_init_1)) (tk_b (tk_l dX14_init_4) (tk_l dX14_init_5))) (tk_b (tk_b (tk_l dX14_init_6) (tk_l dX14_init_9)) (tk_b (tk_l dX14_init_10) (tk_b (tk_l dX14_init_11) (tk_l dX14_init_14)))))
def tbX15_canDepart (pc : Nat) : Option (Instr × Nat) := (cond (Nat.ble pc 0) (cond (Nat.beq pc 0) (some (.iconst 1, 1)) none) (cond (Nat.beq pc 1) (some (.ireturn, 1)) none))
theorem tkX15_canDepart : tkAll cX15_canDepart tbX15_canDepart := fun pc => (tk_b (tk_l dX15_canDepart_0) (tk_l dX15_canDepart_1))
def tbX16_promises (pc : Nat) : Option (Instr × Nat) := (cond (Nat.ble pc 0) (cond (Nat.beq pc 0) (some (.iconst 0, 1)) none) (cond (Nat.beq pc 1) (some (.ireturn, 1)) none))
theorem tkX16_promises : tkAll cX16_promises tbX16_promises := fun pc => (tk_b (tk_l dX16_promises_0) (tk_l dX16_promises_1))
def tbX17_promises (pc : Nat) : Option (Instr × Nat) := (cond (Nat.ble pc 0) (cond (Nat.beq pc 0) (some (.iconst 0, 1)) none) (cond (Nat.beq pc 1) (some (.ireturn, 1)) none))
theorem tkX17_promises : tkAll cX17_promises tbX17_promises := fun pc => (tk_b (tk_l dX17_promises_0) (tk_l dX17_promises_1))
