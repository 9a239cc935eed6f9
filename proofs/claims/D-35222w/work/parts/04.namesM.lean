/-! TrunkYardsModel -/
set_option maxRecDepth 100000
def RX4 : String := "TrunkYardsModel"
def TX4 : u_T := fun k => match k with
  | 0 => ("TrunkYardsModel", "thrown", "I", false)
  | 1 => ("TrunkYardsModel", "now", "I", false)
  | 2 => ("TrunkYardsModel", "wagons", "I", false)
  | 3 => ("TrunkYardsModel", "where", "[I", true)
  | 4 => ("TrunkYardsModel", "carried", "[I", true)
  | 5 => ("TrunkYardsModel", "booking", "[I", true)
  | 6 => ("TrunkYardsModel", "on", "[I", true)
  | 7 => ("TrunkYardsModel", "track", "[I", true)
  | 8 => ("TrunkYardsModel", "follows", "[I", true)
  | 9 => ("TrunkYardsModel", "trunk", "[I", true)
  | 10 => ("TrunkYardsModel", "lines", "[I", true)
  | 11 => ("TrunkYardsModel", "calls", "I", false)
  | 12 => ("TrunkYardsModel", "busy", "I", false)
  | 13 => ("TrunkYardsModel", "customer", "[I", true)
  | 14 => ("TrunkYardsModel", "yard", "[I", true)
  | 15 => ("TrunkYardsModel", "goesOn", "[Z", true)
  | 16 => ("TrunkYardsModel", "open", "[I", true)
  | 17 => ("TrunkYardsModel", "bookings", "I", false)
  | 18 => ("TrunkYardsModel", "state", "[I", true)
  | 19 => ("TrunkYardsModel", "grain", "[I", true)
  | 20 => ("TrunkYardsModel", "owner", "[I", true)
  | 21 => ("TrunkYardsModel", "booked", "[I", true)
  | 22 => ("TrunkYardsModel", "lapse", "[I", true)
  | 23 => ("TrunkYardsModel", "many", "[I", true)
  | 24 => ("TrunkYardsModel", "wagonOf", "[I", true)
  | 25 => ("TrunkYardsModel", "trains", "I", false)
  | 26 => ("TrunkYardsModel", "goesTo", "[I", true)
  | 27 => ("TrunkYardsModel", "hasArrived", "[Z", true)
  | 28 => ("TrunkYardsModel", "length", "[I", true)
  | _ => ("TrunkYardsModel", "train", "[I", true)
def tyX4 : Nat → FieldType := fun k => match k with
  | 0 => .int
  | 1 => .int
  | 2 => .int
  | 3 => .array .int
  | 4 => .array .int
  | 5 => .array .int
  | 6 => .array .int
  | 7 => .array .int
  | 8 => .array .int
  | 9 => .array .int
  | 10 => .array .int
  | 11 => .int
  | 12 => .int
  | 13 => .array .int
  | 14 => .array .int
  | 15 => .array .boolean
  | 16 => .array .int
  | 17 => .int
  | 18 => .array .int
  | 19 => .array .int
  | 20 => .array .int
  | 21 => .array .int
  | 22 => .array .int
  | 23 => .array .int
  | 24 => .array .int
  | 25 => .int
  | 26 => .array .int
  | 27 => .array .boolean
  | 28 => .array .int
  | _ => .array .int
abbrev wsX40 : List Cond := u_ws RX4 TX4 30
set_option maxRecDepth 100000 in
theorem nmX4 : ∀ a, a < 30 → ∀ b, b < 30 → a ≠ b → (TX4 a).2.1 ≠ (TX4 b).2.1 := by decide +kernel
set_option maxRecDepth 100000 in
theorem tyX4_ok : ∀ k, k < 30 → parseFieldDescriptor (TX4 k).2.2.1 = some (tyX4 k) := by decide +kernel
abbrev cX4_init : ByteArray := prog_19_method_1_code
def yX4_init : MethodName := ⟨RX4, "<init>", "()V"⟩
def dkwX4_init_9 : List UInt8 := [181, 0, 74, 42, 17, 0, 240, 188, 10, 181, 0, 77, 177]
abbrev dktX4_init_9 : List UInt8 := dkwX4_init_9 ++ []
def dkwX4_init_8 : List UInt8 := [181, 0, 65, 42, 16, 40, 188, 10, 181, 0, 68, 42, 16, 40, 188, 4, 181, 0, 71, 42, 16, 40, 188, 10]
abbrev dktX4_init_8 : List UInt8 := dkwX4_init_8 ++ dktX4_init_9
def dkwX4_init_7 : List UInt8 := [42, 16, 40, 188, 10, 181, 0, 59, 42, 16, 40, 188, 10, 181, 0, 62, 42, 17, 4, 176, 188, 10]
abbrev dktX4_init_7 : List UInt8 := dkwX4_init_7 ++ dktX4_init_8
def dkwX4_init_6 : List UInt8 := [42, 16, 40, 188, 10, 181, 0, 50, 42, 16, 40, 188, 10, 181, 0, 53, 42, 16, 40, 188, 10, 181, 0, 56]
abbrev dktX4_init_6 : List UInt8 := dkwX4_init_6 ++ dktX4_init_7
def dkwX4_init_5 : List UInt8 := [42, 16, 60, 188, 4, 181, 0, 40, 42, 16, 60, 188, 10, 181, 0, 44, 42, 16, 40, 188, 10, 181, 0, 47]
abbrev dktX4_init_5 : List UInt8 := dkwX4_init_5 ++ dktX4_init_6
def dkwX4_init_4 : List UInt8 := [79, 89, 5, 4, 79, 181, 0, 31, 42, 16, 60, 188, 10, 181, 0, 34, 42, 16, 60, 188, 10, 181, 0, 37]
abbrev dktX4_init_4 : List UInt8 := dkwX4_init_4 ++ dktX4_init_5
def dkwX4_init_3 : List UInt8 := [2, 79, 89, 7, 2, 79, 89, 8, 2, 79, 181, 0, 28, 42, 6, 188, 10, 89, 3, 4, 79, 89, 4, 4]
abbrev dktX4_init_3 : List UInt8 := dkwX4_init_3 ++ dktX4_init_4
def dkwX4_init_2 : List UInt8 := [188, 10, 181, 0, 25, 42, 16, 6, 188, 10, 89, 3, 2, 79, 89, 4, 2, 79, 89, 5, 2, 79, 89, 6]
abbrev dktX4_init_2 : List UInt8 := dkwX4_init_2 ++ dktX4_init_3
def dkwX4_init_1 : List UInt8 := [188, 10, 181, 0, 16, 42, 16, 15, 188, 10, 181, 0, 19, 42, 16, 90, 188, 10, 181, 0, 22, 42, 7]
abbrev dktX4_init_1 : List UInt8 := dkwX4_init_1 ++ dktX4_init_2
def dkwX4_init_0 : List UInt8 := [42, 183, 0, 1, 42, 16, 30, 188, 10, 181, 0, 7, 42, 16, 30, 188, 10, 181, 0, 13, 42, 16, 30]
abbrev dktX4_init_0 : List UInt8 := dkwX4_init_0 ++ dktX4_init_1
theorem dksX4_init_0 : cX4_init.data.toList.drop 0 = dktX4_init_0 := by decide +kernel
theorem dksX4_init_1 : cX4_init.data.toList.drop 23 = dktX4_init_1 := dk_seg dksX4_init_0 23 rfl rfl
theorem dksX4_init_2 : cX4_init.data.toList.drop 46 = dktX4_init_2 := dk_seg dksX4_init_1 23 rfl rfl
theorem dksX4_init_3 : cX4_init.data.toList.drop 70 = dktX4_init_3 := dk_seg dksX4_init_2 24 rfl rfl
theorem dksX4_init_4 : cX4_init.data.toList.drop 94 = dktX4_init_4 := dk_seg dksX4_init_3 24 rfl rfl
theorem dksX4_init_5 : cX4_init.data.toList.drop 118 = dktX4_init_5 := dk_seg dksX4_init_4 24 rfl rfl
theorem dksX4_init_6 : cX4_init.data.toList.drop 142 = dktX4_init_6 := dk_seg dksX4_init_5 24 rfl rfl
theorem dksX4_init_7 : cX4_init.data.toList.drop 166 = dktX4_init_7 := dk_seg dksX4_init_6 24 rfl rfl
theorem dksX4_init_8 : cX4_init.data.toList.drop 188 = dktX4_init_8 := dk_seg dksX4_init_7 22 rfl rfl
theorem dksX4_init_9 : cX4_init.data.toList.drop 212 = dktX4_init_9 := dk_seg dksX4_init_8 24 rfl rfl
theorem dX4_init_0 : decode cX4_init 0 = .ok (.aload_n 0, 1) := dk_42 (dk_at dksX4_init_0 0 rfl rfl)
theorem dX4_init_1 : decode cX4_init 1 = .ok (.invokespecial 1, 3) := dk_183 0 1 (dk_at dksX4_init_0 1 rfl rfl)
theorem dX4_init_4 : decode cX4_init 4 = .ok (.aload_n 0, 1) := dk_42 (dk_at dksX4_init_0 4 rfl rfl)
theorem dX4_init_5 : decode cX4_init 5 = .ok (.bipush 30, 2) := dk_16 30 (dk_at dksX4_init_0 5 rfl rfl)
theorem dX4_init_7 : decode cX4_init 7 = .ok (.newarray .int, 2) := dk_188_10 (dk_at dksX4_init_0 7 rfl rfl)
theorem dX4_init_9 : decode cX4_init 9 = .ok (.putfield 7, 3) := dk_181 0 7 (dk_at dksX4_init_0 9 rfl rfl)
theorem dX4_init_12 : decode cX4_init 12 = .ok (.aload_n 0, 1) := dk_42 (dk_at dksX4_init_0 12 rfl rfl)
theorem dX4_init_13 : decode cX4_init 13 = .ok (.bipush 30, 2) := dk_16 30 (dk_at dksX4_init_0 13 rfl rfl)
theorem dX4_init_15 : decode cX4_init 15 = .ok (.newarray .int, 2) := dk_188_10 (dk_at dksX4_init_0 15 rfl rfl)
theorem dX4_init_17 : decode cX4_init 17 = .ok (.putfield 13, 3) := dk_181 0 13 (dk_at dksX4_init_0 17 rfl rfl)
theorem dX4_init_20 : decode cX4_init 20 = .ok (.aload_n 0, 1) := dk_42 (dk_at dksX4_init_0 20 rfl rfl)
theorem dX4_init_21 : decode cX4_init 21 = .ok (.bipush 30, 2) := dk_16 30 (dk_at dksX4_init_0 21 rfl rfl)
theorem dX4_init_23 : decode cX4_init 23 = .ok (.newarray .int, 2) := dk_188_10 (dk_at dksX4_init_1 0 rfl rfl)
theorem dX4_init_25 : decode cX4_init 25 = .ok (.putfield 16, 3) := dk_181 0 16 (dk_at dksX4_init_1 2 rfl rfl)
theorem dX4_init_28 : decode cX4_init 28 = .ok (.aload_n 0, 1) := dk_42 (dk_at dksX4_init_1 5 rfl rfl)
theorem dX4_init_29 : decode cX4_init 29 = .ok (.bipush 15, 2) := dk_16 15 (dk_at dksX4_init_1 6 rfl rfl)
theorem dX4_init_31 : decode cX4_init 31 = .ok (.newarray .int, 2) := dk_188_10 (dk_at dksX4_init_1 8 rfl rfl)
theorem dX4_init_33 : decode cX4_init 33 = .ok (.putfield 19, 3) := dk_181 0 19 (dk_at dksX4_init_1 10 rfl rfl)
theorem dX4_init_36 : decode cX4_init 36 = .ok (.aload_n 0, 1) := dk_42 (dk_at dksX4_init_1 13 rfl rfl)
theorem dX4_init_37 : decode cX4_init 37 = .ok (.bipush 90, 2) := dk_16 90 (dk_at dksX4_init_1 14 rfl rfl)
theorem dX4_init_39 : decode cX4_init 39 = .ok (.newarray .int, 2) := dk_188_10 (dk_at dksX4_init_1 16 rfl rfl)
theorem dX4_init_41 : decode cX4_init 41 = .ok (.putfield 22, 3) := dk_181 0 22 (dk_at dksX4_init_1 18 rfl rfl)
theorem dX4_init_44 : decode cX4_init 44 = .ok (.aload_n 0, 1) := dk_42 (dk_at dksX4_init_1 21 rfl rfl)
theorem dX4_init_45 : decode cX4_init 45 = .ok (.iconst 4, 1) := dk_7 (dk_at dksX4_init_1 22 rfl rfl)
theorem dX4_init_46 : decode cX4_init 46 = .ok (.newarray .int, 2) := dk_188_10 (dk_at dksX4_init_2 0 rfl rfl)
theorem dX4_init_48 : decode cX4_init 48 = .ok (.putfield 25, 3) := dk_181 0 25 (dk_at dksX4_init_2 2 rfl rfl)
theorem dX4_init_51 : decode cX4_init 51 = .ok (.aload_n 0, 1) := dk_42 (dk_at dksX4_init_2 5 rfl rfl)
theorem dX4_init_52 : decode cX4_init 52 = .ok (.bipush 6, 2) := dk_16 6 (dk_at dksX4_init_2 6 rfl rfl)
theorem dX4_init_54 : decode cX4_init 54 = .ok (.newarray .int, 2) := dk_188_10 (dk_at dksX4_init_2 8 rfl rfl)
theorem dX4_init_56 : decode cX4_init 56 = .ok (.dup, 1) := dk_89 (dk_at dksX4_init_2 10 rfl rfl)
theorem dX4_init_57 : decode cX4_init 57 = .ok (.iconst 0, 1) := dk_3 (dk_at dksX4_init_2 11 rfl rfl)
theorem dX4_init_58 : decode cX4_init 58 = .ok (.iconst (-1), 1) := dk_2 (dk_at dksX4_init_2 12 rfl rfl)
theorem dX4_init_59 : decode cX4_init 59 = .ok (.iastore, 1) := dk_79 (dk_at dksX4_init_2 13 rfl rfl)
theorem dX4_init_60 : decode cX4_init 60 = .ok (.dup, 1) := dk_89 (dk_at dksX4_init_2 14 rfl rfl)
theorem dX4_init_61 : decode cX4_init 61 = .ok (.iconst 1, 1) := dk_4 (dk_at dksX4_init_2 15 rfl rfl)
theorem dX4_init_62 : decode cX4_init 62 = .ok (.iconst (-1), 1) := dk_2 (dk_at dksX4_init_2 16 rfl rfl)
theorem dX4_init_63 : decode cX4_init 63 = .ok (.iastore, 1) := dk_79 (dk_at dksX4_init_2 17 rfl rfl)
theorem dX4_init_64 : decode cX4_init 64 = .ok (.dup, 1) := dk_89 (dk_at dksX4_init_2 18 rfl rfl)
theorem dX4_init_65 : decode cX4_init 65 = .ok (.iconst 2, 1) := dk_5 (dk_at dksX4_init_2 19 rfl rfl)
theorem dX4_init_66 : decode cX4_init 66 = .ok (.iconst (-1), 1) := dk_2 (dk_at dksX4_init_2 20 rfl rfl)
theorem dX4_init_67 : decode cX4_init 67 = .ok (.iastore, 1) := dk_79 (dk_at dksX4_init_2 21 rfl rfl)
theorem dX4_init_68 : decode cX4_init 68 = .ok (.dup, 1) := dk_89 (dk_at dksX4_init_2 22 rfl rfl)
theorem dX4_init_69 : decode cX4_init 69 = .ok (.iconst 3, 1) := dk_6 (dk_at dksX4_init_2 23 rfl rfl)
theorem dX4_init_70 : decode cX4_init 70 = .ok (.iconst (-1), 1) := dk_2 (dk_at dksX4_init_3 0 rfl rfl)
theorem dX4_init_71 : decode cX4_init 71 = .ok (.iastore, 1) := dk_79 (dk_at dksX4_init_3 1 rfl rfl)
theorem dX4_init_72 : decode cX4_init 72 = .ok (.dup, 1) := dk_89 (dk_at dksX4_init_3 2 rfl rfl)
theorem dX4_init_73 : decode cX4_init 73 = .ok (.iconst 4, 1) := dk_7 (dk_at dksX4_init_3 3 rfl rfl)
theorem dX4_init_74 : decode cX4_init 74 = .ok (.iconst (-1), 1) := dk_2 (dk_at dksX4_init_3 4 rfl rfl)
theorem dX4_init_75 : decode cX4_init 75 = .ok (.iastore, 1) := dk_79 (dk_at dksX4_init_3 5 rfl rfl)
theorem dX4_init_76 : decode cX4_init 76 = .ok (.dup, 1) := dk_89 (dk_at dksX4_init_3 6 rfl rfl)
theorem dX4_init_77 : decode cX4_init 77 = .ok (.iconst 5, 1) := dk_8 (dk_at dksX4_init_3 7 rfl rfl)
theorem dX4_init_78 : decode cX4_init 78 = .ok (.iconst (-1), 1) := dk_2 (dk_at dksX4_init_3 8 rfl rfl)
theorem dX4_init_79 : decode cX4_init 79 = .ok (.iastore, 1) := dk_79 (dk_at dksX4_init_3 9 rfl rfl)
theorem dX4_init_80 : decode cX4_init 80 = .ok (.putfield 28, 3) := dk_181 0 28 (dk_at dksX4_init_3 10 rfl rfl)
theorem dX4_init_83 : decode cX4_init 83 = .ok (.aload_n 0, 1) := dk_42 (dk_at dksX4_init_3 13 rfl rfl)
theorem dX4_init_84 : decode cX4_init 84 = .ok (.iconst 3, 1) := dk_6 (dk_at dksX4_init_3 14 rfl rfl)
theorem dX4_init_85 : decode cX4_init 85 = .ok (.newarray .int, 2) := dk_188_10 (dk_at dksX4_init_3 15 rfl rfl)
theorem dX4_init_87 : decode cX4_init 87 = .ok (.dup, 1) := dk_89 (dk_at dksX4_init_3 17 rfl rfl)
theorem dX4_init_88 : decode cX4_init 88 = .ok (.iconst 0, 1) := dk_3 (dk_at dksX4_init_3 18 rfl rfl)
theorem dX4_init_89 : decode cX4_init 89 = .ok (.iconst 1, 1) := dk_4 (dk_at dksX4_init_3 19 rfl rfl)
theorem dX4_init_90 : decode cX4_init 90 = .ok (.iastore, 1) := dk_79 (dk_at dksX4_init_3 20 rfl rfl)
theorem dX4_init_91 : decode cX4_init 91 = .ok (.dup, 1) := dk_89 (dk_at dksX4_init_3 21 rfl rfl)
theorem dX4_init_92 : decode cX4_init 92 = .ok (.iconst 1, 1) := dk_4 (dk_at dksX4_init_3 22 rfl rfl)
theorem dX4_init_93 : decode cX4_init 93 = .ok (.iconst 1, 1) := dk_4 (dk_at dksX4_init_3 23 rfl rfl)
theorem dX4_init_94 : decode cX4_init 94 = .ok (.iastore, 1) := dk_79 (dk_at dksX4_init_4 0 rfl rfl)
theorem dX4_init_95 : decode cX4_init 95 = .ok (.dup, 1) := dk_89 (dk_at dksX4_init_4 1 rfl rfl)
theorem dX4_init_96 : decode cX4_init 96 = .ok (.iconst 2, 1) := dk_5 (dk_at dksX4_init_4 2 rfl rfl)
theorem dX4_init_97 : decode cX4_init 97 = .ok (.iconst 1, 1) := dk_4 (dk_at dksX4_init_4 3 rfl rfl)
theorem dX4_init_98 : decode cX4_init 98 = .ok (.iastore, 1) := dk_79 (dk_at dksX4_init_4 4 rfl rfl)
theorem dX4_init_99 : decode cX4_init 99 = .ok (.putfield 31, 3) := dk_181 0 31 (dk_at dksX4_init_4 5 rfl rfl)
theorem dX4_init_102 : decode cX4_init 102 = .ok (.aload_n 0, 1) := dk_42 (dk_at dksX4_init_4 8 rfl rfl)
theorem dX4_init_103 : decode cX4_init 103 = .ok (.bipush 60, 2) := dk_16 60 (dk_at dksX4_init_4 9 rfl rfl)
theorem dX4_init_105 : decode cX4_init 105 = .ok (.newarray .int, 2) := dk_188_10 (dk_at dksX4_init_4 11 rfl rfl)
theorem dX4_init_107 : decode cX4_init 107 = .ok (.putfield 34, 3) := dk_181 0 34 (dk_at dksX4_init_4 13 rfl rfl)
theorem dX4_init_110 : decode cX4_init 110 = .ok (.aload_n 0, 1) := dk_42 (dk_at dksX4_init_4 16 rfl rfl)
theorem dX4_init_111 : decode cX4_init 111 = .ok (.bipush 60, 2) := dk_16 60 (dk_at dksX4_init_4 17 rfl rfl)
theorem dX4_init_113 : decode cX4_init 113 = .ok (.newarray .int, 2) := dk_188_10 (dk_at dksX4_init_4 19 rfl rfl)
theorem dX4_init_115 : decode cX4_init 115 = .ok (.putfield 37, 3) := dk_181 0 37 (dk_at dksX4_init_4 21 rfl rfl)
theorem dX4_init_118 : decode cX4_init 118 = .ok (.aload_n 0, 1) := dk_42 (dk_at dksX4_init_5 0 rfl rfl)
theorem dX4_init_119 : decode cX4_init 119 = .ok (.bipush 60, 2) := dk_16 60 (dk_at dksX4_init_5 1 rfl rfl)
theorem dX4_init_121 : decode cX4_init 121 = .ok (.newarray .boolean, 2) := dk_188_4 (dk_at dksX4_init_5 3 rfl rfl)
theorem dX4_init_123 : decode cX4_init 123 = .ok (.putfield 40, 3) := dk_181 0 40 (dk_at dksX4_init_5 5 rfl rfl)
theorem dX4_init_126 : decode cX4_init 126 = .ok (.aload_n 0, 1) := dk_42 (dk_at dksX4_init_5 8 rfl rfl)
theorem dX4_init_127 : decode cX4_init 127 = .ok (.bipush 60, 2) := dk_16 60 (dk_at dksX4_init_5 9 rfl rfl)
theorem dX4_init_129 : decode cX4_init 129 = .ok (.newarray .int, 2) := dk_188_10 (dk_at dksX4_init_5 11 rfl rfl)
theorem dX4_init_131 : decode cX4_init 131 = .ok (.putfield 44, 3) := dk_181 0 44 (dk_at dksX4_init_5 13 rfl rfl)
theorem dX4_init_134 : decode cX4_init 134 = .ok (.aload_n 0, 1) := dk_42 (dk_at dksX4_init_5 16 rfl rfl)
theorem dX4_init_135 : decode cX4_init 135 = .ok (.bipush 40, 2) := dk_16 40 (dk_at dksX4_init_5 17 rfl rfl)
theorem dX4_init_137 : decode cX4_init 137 = .ok (.newarray .int, 2) := dk_188_10 (dk_at dksX4_init_5 19 rfl rfl)
theorem dX4_init_139 : decode cX4_init 139 = .ok (.putfield 47, 3) := dk_181 0 47 (dk_at dksX4_init_5 21 rfl rfl)
theorem dX4_init_142 : decode cX4_init 142 = .ok (.aload_n 0, 1) := dk_42 (dk_at dksX4_init_6 0 rfl rfl)
theorem dX4_init_143 : decode cX4_init 143 = .ok (.bipush 40, 2) := dk_16 40 (dk_at dksX4_init_6 1 rfl rfl)
theorem dX4_init_145 : decode cX4_init 145 = .ok (.newarray .int, 2) := dk_188_10 (dk_at dksX4_init_6 3 rfl rfl)
theorem dX4_init_147 : decode cX4_init 147 = .ok (.putfield 50, 3) := dk_181 0 50 (dk_at dksX4_init_6 5 rfl rfl)
theorem dX4_init_150 : decode cX4_init 150 = .ok (.aload_n 0, 1) := dk_42 (dk_at dksX4_init_6 8 rfl rfl)
theorem dX4_init_151 : decode cX4_init 151 = .ok (.bipush 40, 2) := dk_16 40 (dk_at dksX4_init_6 9 rfl rfl)
theorem dX4_init_153 : decode cX4_init 153 = .ok (.newarray .int, 2) := dk_188_10 (dk_at dksX4_init_6 11 rfl rfl)
theorem dX4_init_155 : decode cX4_init 155 = .ok (.putfield 53, 3) := dk_181 0 53 (dk_at dksX4_init_6 13 rfl rfl)
theorem dX4_init_158 : decode cX4_init 158 = .ok (.aload_n 0, 1) := dk_42 (dk_at dksX4_init_6 16 rfl rfl)
theorem dX4_init_159 : decode cX4_init 159 = .ok (.bipush 40, 2) := dk_16 40 (dk_at dksX4_init_6 17 rfl rfl)
theorem dX4_init_161 : decode cX4_init 161 = .ok (.newarray .int, 2) := dk_188_10 (dk_at dksX4_init_6 19 rfl rfl)
theorem dX4_init_163 : decode cX4_init 163 = .ok (.putfield 56, 3) := dk_181 0 56 (dk_at dksX4_init_6 21 rfl rfl)
theorem dX4_init_166 : decode cX4_init 166 = .ok (.aload_n 0, 1) := dk_42 (dk_at dksX4_init_7 0 rfl rfl)
theorem dX4_init_167 : decode cX4_init 167 = .ok (.bipush 40, 2) := dk_16 40 (dk_at dksX4_init_7 1 rfl rfl)
theorem dX4_init_169 : decode cX4_init 169 = .ok (.newarray .int, 2) := dk_188_10 (dk_at dksX4_init_7 3 rfl rfl)
theorem dX4_init_171 : decode cX4_init 171 = .ok (.putfield 59, 3) := dk_181 0 59 (dk_at dksX4_init_7 5 rfl rfl)
theorem dX4_init_174 : decode cX4_init 174 = .ok (.aload_n 0, 1) := dk_42 (dk_at dksX4_init_7 8 rfl rfl)
theorem dX4_init_175 : decode cX4_init 175 = .ok (.bipush 40, 2) := dk_16 40 (dk_at dksX4_init_7 9 rfl rfl)
theorem dX4_init_177 : decode cX4_init 177 = .ok (.newarray .int, 2) := dk_188_10 (dk_at dksX4_init_7 11 rfl rfl)
theorem dX4_init_179 : decode cX4_init 179 = .ok (.putfield 62, 3) := dk_181 0 62 (dk_at dksX4_init_7 13 rfl rfl)
theorem dX4_init_182 : decode cX4_init 182 = .ok (.aload_n 0, 1) := dk_42 (dk_at dksX4_init_7 16 rfl rfl)
theorem dX4_init_183 : decode cX4_init 183 = .ok (.sipush 1200, 3) := dk_17 4 176 (dk_at dksX4_init_7 17 rfl rfl)
theorem dX4_init_186 : decode cX4_init 186 = .ok (.newarray .int, 2) := dk_188_10 (dk_at dksX4_init_7 20 rfl rfl)
theorem dX4_init_188 : decode cX4_init 188 = .ok (.putfield 65, 3) := dk_181 0 65 (dk_at dksX4_init_8 0 rfl rfl)
theorem dX4_init_191 : decode cX4_init 191 = .ok (.aload_n 0, 1) := dk_42 (dk_at dksX4_init_8 3 rfl rfl)
theorem dX4_init_192 : decode cX4_init 192 = .ok (.bipush 40, 2) := dk_16 40 (dk_at dksX4_init_8 4 rfl rfl)
theorem dX4_init_194 : decode cX4_init 194 = .ok (.newarray .int, 2) := dk_188_10 (dk_at dksX4_init_8 6 rfl rfl)
theorem dX4_init_196 : decode cX4_init 196 = .ok (.putfield 68, 3) := dk_181 0 68 (dk_at dksX4_init_8 8 rfl rfl)
theorem dX4_init_199 : decode cX4_init 199 = .ok (.aload_n 0, 1) := dk_42 (dk_at dksX4_init_8 11 rfl rfl)
theorem dX4_init_200 : decode cX4_init 200 = .ok (.bipush 40, 2) := dk_16 40 (dk_at dksX4_init_8 12 rfl rfl)
theorem dX4_init_202 : decode cX4_init 202 = .ok (.newarray .boolean, 2) := dk_188_4 (dk_at dksX4_init_8 14 rfl rfl)
theorem dX4_init_204 : decode cX4_init 204 = .ok (.putfield 71, 3) := dk_181 0 71 (dk_at dksX4_init_8 16 rfl rfl)
theorem dX4_init_207 : decode cX4_init 207 = .ok (.aload_n 0, 1) := dk_42 (dk_at dksX4_init_8 19 rfl rfl)
theorem dX4_init_208 : decode cX4_init 208 = .ok (.bipush 40, 2) := dk_16 40 (dk_at dksX4_init_8 20 rfl rfl)
theorem dX4_init_210 : decode cX4_init 210 = .ok (.newarray .int, 2) := dk_188_10 (dk_at dksX4_init_8 22 rfl rfl)
theorem dX4_init_212 : decode cX4_init 212 = .ok (.putfield 74, 3) := dk_181 0 74 (dk_at dksX4_init_9 0 rfl rfl)
theorem dX4_init_215 : decode cX4_init 215 = .ok (.aload_n 0, 1) := dk_42 (dk_at dksX4_init_9 3 rfl rfl)
theorem dX4_init_216 : decode cX4_init 216 = .ok (.sipush 240, 3) := dk_17 0 240 (dk_at dksX4_init_9 4 rfl rfl)
theorem dX4_init_219 : decode cX4_init 219 = .ok (.newarray .int, 2) := dk_188_10 (dk_at dksX4_init_9 7 rfl rfl)
theorem dX4_init_221 : decode cX4_init 221 = .ok (.putfield 77, 3) := dk_181 0 77 (dk_at dksX4_init_9 9 rfl rfl)
theorem dX4_init_224 : decode cX4_init 224 = .ok (.return_, 1) := dk_177 (dk_at dksX4_init_9 12 rfl rfl)
abbrev cX4_thrown : ByteArray := prog_19_method_2_code
def yX4_thrown : MethodName := ⟨RX4, "thrown", "()I"⟩
theorem dX4_thrown_0 : decode cX4_thrown 0 = .ok (.aload_n 0, 1) := by decide +kernel
theorem dX4_thrown_1 : decode cX4_thrown 1 = .ok (.getfield 80, 3) := by decide +kernel
theorem dX4_thrown_4 : decode cX4_thrown 4 = .ok (.ireturn, 1) := by decide +kernel
abbrev cX4_wagon : ByteArray := prog_19_method_9_code
def yX4_wagon : MethodName := ⟨RX4, "wagon", "(II)I"⟩
def dkwX4_wagon_4 : List UInt8 := [181, 0, 92, 42, 180, 0, 92, 4, 100, 172]
abbrev dktX4_wagon_4 : List UInt8 := dkwX4_wagon_4 ++ []
def dkwX4_wagon_3 : List UInt8 := [180, 0, 92, 2, 79, 42, 27, 28, 42, 180, 0, 92, 182, 0, 99, 42, 89, 180, 0, 92, 4, 96]
abbrev dktX4_wagon_3 : List UInt8 := dkwX4_wagon_3 ++ dktX4_wagon_4
def dkwX4_wagon_2 : List UInt8 := [180, 0, 80, 158, 0, 5, 3, 172, 42, 180, 0, 13, 42, 180, 0, 92, 2, 79, 42, 180, 0, 16, 42]
abbrev dktX4_wagon_2 : List UInt8 := dkwX4_wagon_2 ++ dktX4_wagon_3
def dkwX4_wagon_1 : List UInt8 := [180, 0, 19, 8, 27, 104, 28, 96, 46, 16, 6, 160, 0, 7, 5, 167, 0, 4, 3, 181, 0, 80, 42]
abbrev dktX4_wagon_1 : List UInt8 := dkwX4_wagon_1 ++ dktX4_wagon_2
def dkwX4_wagon_0 : List UInt8 := [42, 27, 28, 184, 0, 95, 154, 0, 7, 4, 167, 0, 32, 42, 180, 0, 92, 16, 30, 159, 0, 18, 42]
abbrev dktX4_wagon_0 : List UInt8 := dkwX4_wagon_0 ++ dktX4_wagon_1
theorem dksX4_wagon_0 : cX4_wagon.data.toList.drop 0 = dktX4_wagon_0 := by decide +kernel
theorem dksX4_wagon_1 : cX4_wagon.data.toList.drop 23 = dktX4_wagon_1 := dk_seg dksX4_wagon_0 23 rfl rfl
theorem dksX4_wagon_2 : cX4_wagon.data.toList.drop 46 = dktX4_wagon_2 := dk_seg dksX4_wagon_1 23 rfl rfl
theorem dksX4_wagon_3 : cX4_wagon.data.toList.drop 69 = dktX4_wagon_3 := dk_seg dksX4_wagon_2 23 rfl rfl
theorem dksX4_wagon_4 : cX4_wagon.data.toList.drop 91 = dktX4_wagon_4 := dk_seg dksX4_wagon_3 22 rfl rfl
theorem dX4_wagon_0 : decode cX4_wagon 0 = .ok (.aload_n 0, 1) := dk_42 (dk_at dksX4_wagon_0 0 rfl rfl)
theorem dX4_wagon_1 : decode cX4_wagon 1 = .ok (.iload_n 1, 1) := dk_27 (dk_at dksX4_wagon_0 1 rfl rfl)
theorem dX4_wagon_2 : decode cX4_wagon 2 = .ok (.iload_n 2, 1) := dk_28 (dk_at dksX4_wagon_0 2 rfl rfl)
theorem dX4_wagon_3 : decode cX4_wagon 3 = .ok (.invokestatic 95, 3) := dk_184 0 95 (dk_at dksX4_wagon_0 3 rfl rfl)
theorem dX4_wagon_6 : decode cX4_wagon 6 = .ok (.ifCond .ne 7, 3) := dk_154 0 7 (dk_at dksX4_wagon_0 6 rfl rfl)
theorem dX4_wagon_9 : decode cX4_wagon 9 = .ok (.iconst 1, 1) := dk_4 (dk_at dksX4_wagon_0 9 rfl rfl)
theorem dX4_wagon_10 : decode cX4_wagon 10 = .ok (.goto 32, 3) := dk_167 0 32 (dk_at dksX4_wagon_0 10 rfl rfl)
theorem dX4_wagon_13 : decode cX4_wagon 13 = .ok (.aload_n 0, 1) := dk_42 (dk_at dksX4_wagon_0 13 rfl rfl)
theorem dX4_wagon_14 : decode cX4_wagon 14 = .ok (.getfield 92, 3) := dk_180 0 92 (dk_at dksX4_wagon_0 14 rfl rfl)
theorem dX4_wagon_17 : decode cX4_wagon 17 = .ok (.bipush 30, 2) := dk_16 30 (dk_at dksX4_wagon_0 17 rfl rfl)
theorem dX4_wagon_19 : decode cX4_wagon 19 = .ok (.if_icmp .eq 18, 3) := dk_159 0 18 (dk_at dksX4_wagon_0 19 rfl rfl)
theorem dX4_wagon_22 : decode cX4_wagon 22 = .ok (.aload_n 0, 1) := dk_42 (dk_at dksX4_wagon_0 22 rfl rfl)
theorem dX4_wagon_23 : decode cX4_wagon 23 = .ok (.getfield 19, 3) := dk_180 0 19 (dk_at dksX4_wagon_1 0 rfl rfl)
theorem dX4_wagon_26 : decode cX4_wagon 26 = .ok (.iconst 5, 1) := dk_8 (dk_at dksX4_wagon_1 3 rfl rfl)
theorem dX4_wagon_27 : decode cX4_wagon 27 = .ok (.iload_n 1, 1) := dk_27 (dk_at dksX4_wagon_1 4 rfl rfl)
theorem dX4_wagon_28 : decode cX4_wagon 28 = .ok (.imul, 1) := dk_104 (dk_at dksX4_wagon_1 5 rfl rfl)
theorem dX4_wagon_29 : decode cX4_wagon 29 = .ok (.iload_n 2, 1) := dk_28 (dk_at dksX4_wagon_1 6 rfl rfl)
theorem dX4_wagon_30 : decode cX4_wagon 30 = .ok (.iadd, 1) := dk_96 (dk_at dksX4_wagon_1 7 rfl rfl)
theorem dX4_wagon_31 : decode cX4_wagon 31 = .ok (.iaload, 1) := dk_46 (dk_at dksX4_wagon_1 8 rfl rfl)
theorem dX4_wagon_32 : decode cX4_wagon 32 = .ok (.bipush 6, 2) := dk_16 6 (dk_at dksX4_wagon_1 9 rfl rfl)
theorem dX4_wagon_34 : decode cX4_wagon 34 = .ok (.if_icmp .ne 7, 3) := dk_160 0 7 (dk_at dksX4_wagon_1 11 rfl rfl)
theorem dX4_wagon_37 : decode cX4_wagon 37 = .ok (.iconst 2, 1) := dk_5 (dk_at dksX4_wagon_1 14 rfl rfl)
theorem dX4_wagon_38 : decode cX4_wagon 38 = .ok (.goto 4, 3) := dk_167 0 4 (dk_at dksX4_wagon_1 15 rfl rfl)
theorem dX4_wagon_41 : decode cX4_wagon 41 = .ok (.iconst 0, 1) := dk_3 (dk_at dksX4_wagon_1 18 rfl rfl)
theorem dX4_wagon_42 : decode cX4_wagon 42 = .ok (.putfield 80, 3) := dk_181 0 80 (dk_at dksX4_wagon_1 19 rfl rfl)
theorem dX4_wagon_45 : decode cX4_wagon 45 = .ok (.aload_n 0, 1) := dk_42 (dk_at dksX4_wagon_1 22 rfl rfl)
theorem dX4_wagon_46 : decode cX4_wagon 46 = .ok (.getfield 80, 3) := dk_180 0 80 (dk_at dksX4_wagon_2 0 rfl rfl)
theorem dX4_wagon_49 : decode cX4_wagon 49 = .ok (.ifCond .le 5, 3) := dk_158 0 5 (dk_at dksX4_wagon_2 3 rfl rfl)
theorem dX4_wagon_52 : decode cX4_wagon 52 = .ok (.iconst 0, 1) := dk_3 (dk_at dksX4_wagon_2 6 rfl rfl)
theorem dX4_wagon_53 : decode cX4_wagon 53 = .ok (.ireturn, 1) := dk_172 (dk_at dksX4_wagon_2 7 rfl rfl)
theorem dX4_wagon_54 : decode cX4_wagon 54 = .ok (.aload_n 0, 1) := dk_42 (dk_at dksX4_wagon_2 8 rfl rfl)
theorem dX4_wagon_55 : decode cX4_wagon 55 = .ok (.getfield 13, 3) := dk_180 0 13 (dk_at dksX4_wagon_2 9 rfl rfl)
theorem dX4_wagon_58 : decode cX4_wagon 58 = .ok (.aload_n 0, 1) := dk_42 (dk_at dksX4_wagon_2 12 rfl rfl)
theorem dX4_wagon_59 : decode cX4_wagon 59 = .ok (.getfield 92, 3) := dk_180 0 92 (dk_at dksX4_wagon_2 13 rfl rfl)
theorem dX4_wagon_62 : decode cX4_wagon 62 = .ok (.iconst (-1), 1) := dk_2 (dk_at dksX4_wagon_2 16 rfl rfl)
theorem dX4_wagon_63 : decode cX4_wagon 63 = .ok (.iastore, 1) := dk_79 (dk_at dksX4_wagon_2 17 rfl rfl)
theorem dX4_wagon_64 : decode cX4_wagon 64 = .ok (.aload_n 0, 1) := dk_42 (dk_at dksX4_wagon_2 18 rfl rfl)
theorem dX4_wagon_65 : decode cX4_wagon 65 = .ok (.getfield 16, 3) := dk_180 0 16 (dk_at dksX4_wagon_2 19 rfl rfl)
theorem dX4_wagon_68 : decode cX4_wagon 68 = .ok (.aload_n 0, 1) := dk_42 (dk_at dksX4_wagon_2 22 rfl rfl)
theorem dX4_wagon_69 : decode cX4_wagon 69 = .ok (.getfield 92, 3) := dk_180 0 92 (dk_at dksX4_wagon_3 0 rfl rfl)
theorem dX4_wagon_72 : decode cX4_wagon 72 = .ok (.iconst (-1), 1) := dk_2 (dk_at dksX4_wagon_3 3 rfl rfl)
theorem dX4_wagon_73 : decode cX4_wagon 73 = .ok (.iastore, 1) := dk_79 (dk_at dksX4_wagon_3 4 rfl rfl)
theorem dX4_wagon_74 : decode cX4_wagon 74 = .ok (.aload_n 0, 1) := dk_42 (dk_at dksX4_wagon_3 5 rfl rfl)
theorem dX4_wagon_75 : decode cX4_wagon 75 = .ok (.iload_n 1, 1) := dk_27 (dk_at dksX4_wagon_3 6 rfl rfl)
theorem dX4_wagon_76 : decode cX4_wagon 76 = .ok (.iload_n 2, 1) := dk_28 (dk_at dksX4_wagon_3 7 rfl rfl)
theorem dX4_wagon_77 : decode cX4_wagon 77 = .ok (.aload_n 0, 1) := dk_42 (dk_at dksX4_wagon_3 8 rfl rfl)
theorem dX4_wagon_78 : decode cX4_wagon 78 = .ok (.getfield 92, 3) := dk_180 0 92 (dk_at dksX4_wagon_3 9 rfl rfl)
theorem dX4_wagon_81 : decode cX4_wagon 81 = .ok (.invokevirtual 99, 3) := dk_182 0 99 (dk_at dksX4_wagon_3 12 rfl rfl)
theorem dX4_wagon_84 : decode cX4_wagon 84 = .ok (.aload_n 0, 1) := dk_42 (dk_at dksX4_wagon_3 15 rfl rfl)
theorem dX4_wagon_85 : decode cX4_wagon 85 = .ok (.dup, 1) := dk_89 (dk_at dksX4_wagon_3 16 rfl rfl)
theorem dX4_wagon_86 : decode cX4_wagon 86 = .ok (.getfield 92, 3) := dk_180 0 92 (dk_at dksX4_wagon_3 17 rfl rfl)
theorem dX4_wagon_89 : decode cX4_wagon 89 = .ok (.iconst 1, 1) := dk_4 (dk_at dksX4_wagon_3 20 rfl rfl)
theorem dX4_wagon_90 : decode cX4_wagon 90 = .ok (.iadd, 1) := dk_96 (dk_at dksX4_wagon_3 21 rfl rfl)
theorem dX4_wagon_91 : decode cX4_wagon 91 = .ok (.putfield 92, 3) := dk_181 0 92 (dk_at dksX4_wagon_4 0 rfl rfl)
theorem dX4_wagon_94 : decode cX4_wagon 94 = .ok (.aload_n 0, 1) := dk_42 (dk_at dksX4_wagon_4 3 rfl rfl)
theorem dX4_wagon_95 : decode cX4_wagon 95 = .ok (.getfield 92, 3) := dk_180 0 92 (dk_at dksX4_wagon_4 4 rfl rfl)
theorem dX4_wagon_98 : decode cX4_wagon 98 = .ok (.iconst 1, 1) := dk_4 (dk_at dksX4_wagon_4 7 rfl rfl)
theorem dX4_wagon_99 : decode cX4_wagon 99 = .ok (.isub, 1) := dk_100 (dk_at dksX4_wagon_4 8 rfl rfl)
theorem dX4_wagon_100 : decode cX4_wagon 100 = .ok (.ireturn, 1) := dk_172 (dk_at dksX4_wagon_4 9 rfl rfl)
abbrev cX4_isTrack : ByteArray := prog_19_method_5_code
def yX4_isTrack : MethodName := ⟨RX4, "isTrack", "(II)Z"⟩
def dkwX4_isTrack_0 : List UInt8 := [26, 184, 0, 88, 153, 0, 16, 27, 3, 7, 184, 0, 84, 153, 0, 7, 4, 167, 0, 4, 3, 172]
abbrev dktX4_isTrack_0 : List UInt8 := dkwX4_isTrack_0 ++ []
theorem dksX4_isTrack_0 : cX4_isTrack.data.toList.drop 0 = dktX4_isTrack_0 := by decide +kernel
theorem dX4_isTrack_0 : decode cX4_isTrack 0 = .ok (.iload_n 0, 1) := dk_26 (dk_at dksX4_isTrack_0 0 rfl rfl)
theorem dX4_isTrack_1 : decode cX4_isTrack 1 = .ok (.invokestatic 88, 3) := dk_184 0 88 (dk_at dksX4_isTrack_0 1 rfl rfl)
theorem dX4_isTrack_4 : decode cX4_isTrack 4 = .ok (.ifCond .eq 16, 3) := dk_153 0 16 (dk_at dksX4_isTrack_0 4 rfl rfl)
theorem dX4_isTrack_7 : decode cX4_isTrack 7 = .ok (.iload_n 1, 1) := dk_27 (dk_at dksX4_isTrack_0 7 rfl rfl)
theorem dX4_isTrack_8 : decode cX4_isTrack 8 = .ok (.iconst 0, 1) := dk_3 (dk_at dksX4_isTrack_0 8 rfl rfl)
theorem dX4_isTrack_9 : decode cX4_isTrack 9 = .ok (.iconst 4, 1) := dk_7 (dk_at dksX4_isTrack_0 9 rfl rfl)
theorem dX4_isTrack_10 : decode cX4_isTrack 10 = .ok (.invokestatic 84, 3) := dk_184 0 84 (dk_at dksX4_isTrack_0 10 rfl rfl)
theorem dX4_isTrack_13 : decode cX4_isTrack 13 = .ok (.ifCond .eq 7, 3) := dk_153 0 7 (dk_at dksX4_isTrack_0 13 rfl rfl)
theorem dX4_isTrack_16 : decode cX4_isTrack 16 = .ok (.iconst 1, 1) := dk_4 (dk_at dksX4_isTrack_0 16 rfl rfl)
theorem dX4_isTrack_17 : decode cX4_isTrack 17 = .ok (.goto 4, 3) := dk_167 0 4 (dk_at dksX4_isTrack_0 17 rfl rfl)
theorem dX4_isTrack_20 : decode cX4_isTrack 20 = .ok (.iconst 0, 1) := dk_3 (dk_at dksX4_isTrack_0 20 rfl rfl)
theorem dX4_isTrack_21 : decode cX4_isTrack 21 = .ok (.ireturn, 1) := dk_172 (dk_at dksX4_isTrack_0 21 rfl rfl)
abbrev cX4_isYard : ByteArray := prog_19_method_4_code
def yX4_isYard : MethodName := ⟨RX4, "isYard", "(I)Z"⟩
def dkwX4_isYard_0 : List UInt8 := [26, 3, 5, 184, 0, 84, 172]
abbrev dktX4_isYard_0 : List UInt8 := dkwX4_isYard_0 ++ []
theorem dksX4_isYard_0 : cX4_isYard.data.toList.drop 0 = dktX4_isYard_0 := by decide +kernel
theorem dX4_isYard_0 : decode cX4_isYard 0 = .ok (.iload_n 0, 1) := dk_26 (dk_at dksX4_isYard_0 0 rfl rfl)
theorem dX4_isYard_1 : decode cX4_isYard 1 = .ok (.iconst 0, 1) := dk_3 (dk_at dksX4_isYard_0 1 rfl rfl)
theorem dX4_isYard_2 : decode cX4_isYard 2 = .ok (.iconst 2, 1) := dk_5 (dk_at dksX4_isYard_0 2 rfl rfl)
theorem dX4_isYard_3 : decode cX4_isYard 3 = .ok (.invokestatic 84, 3) := dk_184 0 84 (dk_at dksX4_isYard_0 3 rfl rfl)
theorem dX4_isYard_6 : decode cX4_isYard 6 = .ok (.ireturn, 1) := dk_172 (dk_at dksX4_isYard_0 6 rfl rfl)
abbrev cX4_in : ByteArray := prog_19_method_3_code
def yX4_in : MethodName := ⟨RX4, "in", "(III)Z"⟩
def dkwX4_in_0 : List UInt8 := [26, 27, 161, 0, 12, 26, 28, 163, 0, 7, 4, 167, 0, 4, 3, 172]
abbrev dktX4_in_0 : List UInt8 := dkwX4_in_0 ++ []
theorem dksX4_in_0 : cX4_in.data.toList.drop 0 = dktX4_in_0 := by decide +kernel
theorem dX4_in_0 : decode cX4_in 0 = .ok (.iload_n 0, 1) := dk_26 (dk_at dksX4_in_0 0 rfl rfl)
theorem dX4_in_1 : decode cX4_in 1 = .ok (.iload_n 1, 1) := dk_27 (dk_at dksX4_in_0 1 rfl rfl)
theorem dX4_in_2 : decode cX4_in 2 = .ok (.if_icmp .lt 12, 3) := dk_161 0 12 (dk_at dksX4_in_0 2 rfl rfl)
theorem dX4_in_5 : decode cX4_in 5 = .ok (.iload_n 0, 1) := dk_26 (dk_at dksX4_in_0 5 rfl rfl)
theorem dX4_in_6 : decode cX4_in 6 = .ok (.iload_n 2, 1) := dk_28 (dk_at dksX4_in_0 6 rfl rfl)
theorem dX4_in_7 : decode cX4_in 7 = .ok (.if_icmp .gt 7, 3) := dk_163 0 7 (dk_at dksX4_in_0 7 rfl rfl)
theorem dX4_in_10 : decode cX4_in 10 = .ok (.iconst 1, 1) := dk_4 (dk_at dksX4_in_0 10 rfl rfl)
theorem dX4_in_11 : decode cX4_in 11 = .ok (.goto 4, 3) := dk_167 0 4 (dk_at dksX4_in_0 11 rfl rfl)
theorem dX4_in_14 : decode cX4_in 14 = .ok (.iconst 0, 1) := dk_3 (dk_at dksX4_in_0 14 rfl rfl)
theorem dX4_in_15 : decode cX4_in 15 = .ok (.ireturn, 1) := dk_172 (dk_at dksX4_in_0 15 rfl rfl)
abbrev cX4_puts : ByteArray := prog_19_method_8_code
def yX4_puts : MethodName := ⟨RX4, "puts", "(III)V"⟩
def dkwX4_puts_2 : List UInt8 := [79, 177]
abbrev dktX4_puts_2 : List UInt8 := dkwX4_puts_2 ++ []
def dkwX4_puts_1 : List UInt8 := [29, 79, 42, 180, 0, 19, 21, 4, 92, 46, 4, 96, 79, 42, 180, 0, 7, 29, 16, 10, 27, 104, 28, 96]
abbrev dktX4_puts_1 : List UInt8 := dkwX4_puts_1 ++ dktX4_puts_2
def dkwX4_puts_0 : List UInt8 := [8, 27, 104, 28, 96, 54, 4, 42, 180, 0, 22, 16, 6, 21, 4, 104, 42, 180, 0, 19, 21, 4, 46, 96]
abbrev dktX4_puts_0 : List UInt8 := dkwX4_puts_0 ++ dktX4_puts_1
theorem dksX4_puts_0 : cX4_puts.data.toList.drop 0 = dktX4_puts_0 := by decide +kernel
theorem dksX4_puts_1 : cX4_puts.data.toList.drop 24 = dktX4_puts_1 := dk_seg dksX4_puts_0 24 rfl rfl
theorem dksX4_puts_2 : cX4_puts.data.toList.drop 48 = dktX4_puts_2 := dk_seg dksX4_puts_1 24 rfl rfl
theorem dX4_puts_0 : decode cX4_puts 0 = .ok (.iconst 5, 1) := dk_8 (dk_at dksX4_puts_0 0 rfl rfl)
theorem dX4_puts_1 : decode cX4_puts 1 = .ok (.iload_n 1, 1) := dk_27 (dk_at dksX4_puts_0 1 rfl rfl)
theorem dX4_puts_2 : decode cX4_puts 2 = .ok (.imul, 1) := dk_104 (dk_at dksX4_puts_0 2 rfl rfl)
theorem dX4_puts_3 : decode cX4_puts 3 = .ok (.iload_n 2, 1) := dk_28 (dk_at dksX4_puts_0 3 rfl rfl)
theorem dX4_puts_4 : decode cX4_puts 4 = .ok (.iadd, 1) := dk_96 (dk_at dksX4_puts_0 4 rfl rfl)
theorem dX4_puts_5 : decode cX4_puts 5 = .ok (.istore 4, 2) := dk_54 4 (dk_at dksX4_puts_0 5 rfl rfl)
theorem dX4_puts_7 : decode cX4_puts 7 = .ok (.aload_n 0, 1) := dk_42 (dk_at dksX4_puts_0 7 rfl rfl)
theorem dX4_puts_8 : decode cX4_puts 8 = .ok (.getfield 22, 3) := dk_180 0 22 (dk_at dksX4_puts_0 8 rfl rfl)
theorem dX4_puts_11 : decode cX4_puts 11 = .ok (.bipush 6, 2) := dk_16 6 (dk_at dksX4_puts_0 11 rfl rfl)
theorem dX4_puts_13 : decode cX4_puts 13 = .ok (.iload 4, 2) := dk_21 4 (dk_at dksX4_puts_0 13 rfl rfl)
theorem dX4_puts_15 : decode cX4_puts 15 = .ok (.imul, 1) := dk_104 (dk_at dksX4_puts_0 15 rfl rfl)
theorem dX4_puts_16 : decode cX4_puts 16 = .ok (.aload_n 0, 1) := dk_42 (dk_at dksX4_puts_0 16 rfl rfl)
theorem dX4_puts_17 : decode cX4_puts 17 = .ok (.getfield 19, 3) := dk_180 0 19 (dk_at dksX4_puts_0 17 rfl rfl)
theorem dX4_puts_20 : decode cX4_puts 20 = .ok (.iload 4, 2) := dk_21 4 (dk_at dksX4_puts_0 20 rfl rfl)
theorem dX4_puts_22 : decode cX4_puts 22 = .ok (.iaload, 1) := dk_46 (dk_at dksX4_puts_0 22 rfl rfl)
theorem dX4_puts_23 : decode cX4_puts 23 = .ok (.iadd, 1) := dk_96 (dk_at dksX4_puts_0 23 rfl rfl)
theorem dX4_puts_24 : decode cX4_puts 24 = .ok (.iload_n 3, 1) := dk_29 (dk_at dksX4_puts_1 0 rfl rfl)
theorem dX4_puts_25 : decode cX4_puts 25 = .ok (.iastore, 1) := dk_79 (dk_at dksX4_puts_1 1 rfl rfl)
theorem dX4_puts_26 : decode cX4_puts 26 = .ok (.aload_n 0, 1) := dk_42 (dk_at dksX4_puts_1 2 rfl rfl)
theorem dX4_puts_27 : decode cX4_puts 27 = .ok (.getfield 19, 3) := dk_180 0 19 (dk_at dksX4_puts_1 3 rfl rfl)
theorem dX4_puts_30 : decode cX4_puts 30 = .ok (.iload 4, 2) := dk_21 4 (dk_at dksX4_puts_1 6 rfl rfl)
theorem dX4_puts_32 : decode cX4_puts 32 = .ok (.dup2, 1) := dk_92 (dk_at dksX4_puts_1 8 rfl rfl)
theorem dX4_puts_33 : decode cX4_puts 33 = .ok (.iaload, 1) := dk_46 (dk_at dksX4_puts_1 9 rfl rfl)
theorem dX4_puts_34 : decode cX4_puts 34 = .ok (.iconst 1, 1) := dk_4 (dk_at dksX4_puts_1 10 rfl rfl)
theorem dX4_puts_35 : decode cX4_puts 35 = .ok (.iadd, 1) := dk_96 (dk_at dksX4_puts_1 11 rfl rfl)
theorem dX4_puts_36 : decode cX4_puts 36 = .ok (.iastore, 1) := dk_79 (dk_at dksX4_puts_1 12 rfl rfl)
theorem dX4_puts_37 : decode cX4_puts 37 = .ok (.aload_n 0, 1) := dk_42 (dk_at dksX4_puts_1 13 rfl rfl)
theorem dX4_puts_38 : decode cX4_puts 38 = .ok (.getfield 7, 3) := dk_180 0 7 (dk_at dksX4_puts_1 14 rfl rfl)
theorem dX4_puts_41 : decode cX4_puts 41 = .ok (.iload_n 3, 1) := dk_29 (dk_at dksX4_puts_1 17 rfl rfl)
theorem dX4_puts_42 : decode cX4_puts 42 = .ok (.bipush 10, 2) := dk_16 10 (dk_at dksX4_puts_1 18 rfl rfl)
theorem dX4_puts_44 : decode cX4_puts 44 = .ok (.iload_n 1, 1) := dk_27 (dk_at dksX4_puts_1 20 rfl rfl)
theorem dX4_puts_45 : decode cX4_puts 45 = .ok (.imul, 1) := dk_104 (dk_at dksX4_puts_1 21 rfl rfl)
theorem dX4_puts_46 : decode cX4_puts 46 = .ok (.iload_n 2, 1) := dk_28 (dk_at dksX4_puts_1 22 rfl rfl)
theorem dX4_puts_47 : decode cX4_puts 47 = .ok (.iadd, 1) := dk_96 (dk_at dksX4_puts_1 23 rfl rfl)
theorem dX4_puts_48 : decode cX4_puts 48 = .ok (.iastore, 1) := dk_79 (dk_at dksX4_puts_2 0 rfl rfl)
theorem dX4_puts_49 : decode cX4_puts 49 = .ok (.return_, 1) := dk_177 (dk_at dksX4_puts_2 1 rfl rfl)
abbrev cX4_shunt : ByteArray := prog_19_method_10_code
def yX4_shunt : MethodName := ⟨RX4, "shunt", "(IIII)I"⟩
def dkwX4_shunt_7 : List UInt8 := [8, 27, 104, 29, 96, 46, 172]
abbrev dktX4_shunt_7 : List UInt8 := dkwX4_shunt_7 ++ []
def dkwX4_shunt_6 : List UInt8 := [180, 0, 19, 21, 6, 46, 96, 21, 7, 96, 46, 182, 0, 99, 132, 7, 1, 167, 255, 219, 42, 180, 0, 19]
abbrev dktX4_shunt_6 : List UInt8 := dkwX4_shunt_6 ++ dktX4_shunt_7
def dkwX4_shunt_5 : List UInt8 := [3, 54, 7, 21, 7, 21, 4, 162, 0, 36, 42, 27, 29, 42, 180, 0, 22, 16, 6, 21, 6, 104, 42]
abbrev dktX4_shunt_5 : List UInt8 := dkwX4_shunt_5 ++ dktX4_shunt_6
def dkwX4_shunt_4 : List UInt8 := [158, 0, 5, 3, 172, 8, 27, 104, 28, 96, 54, 6, 42, 180, 0, 19, 21, 6, 92, 46, 21, 4, 100, 79]
abbrev dktX4_shunt_4 : List UInt8 := dkwX4_shunt_4 ++ dktX4_shunt_5
def dkwX4_shunt_3 : List UInt8 := [104, 29, 96, 46, 21, 4, 96, 16, 6, 164, 0, 7, 5, 167, 0, 4, 3, 181, 0, 80, 42, 180, 0, 80]
abbrev dktX4_shunt_3 : List UInt8 := dkwX4_shunt_3 ++ dktX4_shunt_4
def dkwX4_shunt_2 : List UInt8 := [167, 0, 41, 42, 180, 0, 19, 8, 27, 104, 28, 96, 46, 21, 4, 161, 0, 21, 42, 180, 0, 19, 8, 27]
abbrev dktX4_shunt_2 : List UInt8 := dkwX4_shunt_2 ++ dktX4_shunt_3
def dkwX4_shunt_1 : List UInt8 := [16, 6, 184, 0, 84, 153, 0, 7, 4, 167, 0, 4, 3, 54, 5, 42, 21, 5, 154, 0, 7, 4]
abbrev dktX4_shunt_1 : List UInt8 := dkwX4_shunt_1 ++ dktX4_shunt_2
def dkwX4_shunt_0 : List UInt8 := [27, 28, 184, 0, 95, 153, 0, 31, 27, 29, 184, 0, 95, 153, 0, 23, 28, 29, 159, 0, 18, 21, 4, 4]
abbrev dktX4_shunt_0 : List UInt8 := dkwX4_shunt_0 ++ dktX4_shunt_1
theorem dksX4_shunt_0 : cX4_shunt.data.toList.drop 0 = dktX4_shunt_0 := by decide +kernel
theorem dksX4_shunt_1 : cX4_shunt.data.toList.drop 24 = dktX4_shunt_1 := dk_seg dksX4_shunt_0 24 rfl rfl
theorem dksX4_shunt_2 : cX4_shunt.data.toList.drop 46 = dktX4_shunt_2 := dk_seg dksX4_shunt_1 22 rfl rfl
theorem dksX4_shunt_3 : cX4_shunt.data.toList.drop 70 = dktX4_shunt_3 := dk_seg dksX4_shunt_2 24 rfl rfl
theorem dksX4_shunt_4 : cX4_shunt.data.toList.drop 94 = dktX4_shunt_4 := dk_seg dksX4_shunt_3 24 rfl rfl
theorem dksX4_shunt_5 : cX4_shunt.data.toList.drop 118 = dktX4_shunt_5 := dk_seg dksX4_shunt_4 24 rfl rfl
theorem dksX4_shunt_6 : cX4_shunt.data.toList.drop 141 = dktX4_shunt_6 := dk_seg dksX4_shunt_5 23 rfl rfl
theorem dksX4_shunt_7 : cX4_shunt.data.toList.drop 165 = dktX4_shunt_7 := dk_seg dksX4_shunt_6 24 rfl rfl
theorem dX4_shunt_0 : decode cX4_shunt 0 = .ok (.iload_n 1, 1) := dk_27 (dk_at dksX4_shunt_0 0 rfl rfl)
theorem dX4_shunt_1 : decode cX4_shunt 1 = .ok (.iload_n 2, 1) := dk_28 (dk_at dksX4_shunt_0 1 rfl rfl)
theorem dX4_shunt_2 : decode cX4_shunt 2 = .ok (.invokestatic 95, 3) := dk_184 0 95 (dk_at dksX4_shunt_0 2 rfl rfl)
theorem dX4_shunt_5 : decode cX4_shunt 5 = .ok (.ifCond .eq 31, 3) := dk_153 0 31 (dk_at dksX4_shunt_0 5 rfl rfl)
theorem dX4_shunt_8 : decode cX4_shunt 8 = .ok (.iload_n 1, 1) := dk_27 (dk_at dksX4_shunt_0 8 rfl rfl)
theorem dX4_shunt_9 : decode cX4_shunt 9 = .ok (.iload_n 3, 1) := dk_29 (dk_at dksX4_shunt_0 9 rfl rfl)
theorem dX4_shunt_10 : decode cX4_shunt 10 = .ok (.invokestatic 95, 3) := dk_184 0 95 (dk_at dksX4_shunt_0 10 rfl rfl)
theorem dX4_shunt_13 : decode cX4_shunt 13 = .ok (.ifCond .eq 23, 3) := dk_153 0 23 (dk_at dksX4_shunt_0 13 rfl rfl)
theorem dX4_shunt_16 : decode cX4_shunt 16 = .ok (.iload_n 2, 1) := dk_28 (dk_at dksX4_shunt_0 16 rfl rfl)
theorem dX4_shunt_17 : decode cX4_shunt 17 = .ok (.iload_n 3, 1) := dk_29 (dk_at dksX4_shunt_0 17 rfl rfl)
theorem dX4_shunt_18 : decode cX4_shunt 18 = .ok (.if_icmp .eq 18, 3) := dk_159 0 18 (dk_at dksX4_shunt_0 18 rfl rfl)
theorem dX4_shunt_21 : decode cX4_shunt 21 = .ok (.iload 4, 2) := dk_21 4 (dk_at dksX4_shunt_0 21 rfl rfl)
theorem dX4_shunt_23 : decode cX4_shunt 23 = .ok (.iconst 1, 1) := dk_4 (dk_at dksX4_shunt_0 23 rfl rfl)
theorem dX4_shunt_24 : decode cX4_shunt 24 = .ok (.bipush 6, 2) := dk_16 6 (dk_at dksX4_shunt_1 0 rfl rfl)
theorem dX4_shunt_26 : decode cX4_shunt 26 = .ok (.invokestatic 84, 3) := dk_184 0 84 (dk_at dksX4_shunt_1 2 rfl rfl)
theorem dX4_shunt_29 : decode cX4_shunt 29 = .ok (.ifCond .eq 7, 3) := dk_153 0 7 (dk_at dksX4_shunt_1 5 rfl rfl)
theorem dX4_shunt_32 : decode cX4_shunt 32 = .ok (.iconst 1, 1) := dk_4 (dk_at dksX4_shunt_1 8 rfl rfl)
theorem dX4_shunt_33 : decode cX4_shunt 33 = .ok (.goto 4, 3) := dk_167 0 4 (dk_at dksX4_shunt_1 9 rfl rfl)
theorem dX4_shunt_36 : decode cX4_shunt 36 = .ok (.iconst 0, 1) := dk_3 (dk_at dksX4_shunt_1 12 rfl rfl)
theorem dX4_shunt_37 : decode cX4_shunt 37 = .ok (.istore 5, 2) := dk_54 5 (dk_at dksX4_shunt_1 13 rfl rfl)
theorem dX4_shunt_39 : decode cX4_shunt 39 = .ok (.aload_n 0, 1) := dk_42 (dk_at dksX4_shunt_1 15 rfl rfl)
theorem dX4_shunt_40 : decode cX4_shunt 40 = .ok (.iload 5, 2) := dk_21 5 (dk_at dksX4_shunt_1 16 rfl rfl)
theorem dX4_shunt_42 : decode cX4_shunt 42 = .ok (.ifCond .ne 7, 3) := dk_154 0 7 (dk_at dksX4_shunt_1 18 rfl rfl)
theorem dX4_shunt_45 : decode cX4_shunt 45 = .ok (.iconst 1, 1) := dk_4 (dk_at dksX4_shunt_1 21 rfl rfl)
theorem dX4_shunt_46 : decode cX4_shunt 46 = .ok (.goto 41, 3) := dk_167 0 41 (dk_at dksX4_shunt_2 0 rfl rfl)
theorem dX4_shunt_49 : decode cX4_shunt 49 = .ok (.aload_n 0, 1) := dk_42 (dk_at dksX4_shunt_2 3 rfl rfl)
theorem dX4_shunt_50 : decode cX4_shunt 50 = .ok (.getfield 19, 3) := dk_180 0 19 (dk_at dksX4_shunt_2 4 rfl rfl)
theorem dX4_shunt_53 : decode cX4_shunt 53 = .ok (.iconst 5, 1) := dk_8 (dk_at dksX4_shunt_2 7 rfl rfl)
theorem dX4_shunt_54 : decode cX4_shunt 54 = .ok (.iload_n 1, 1) := dk_27 (dk_at dksX4_shunt_2 8 rfl rfl)
theorem dX4_shunt_55 : decode cX4_shunt 55 = .ok (.imul, 1) := dk_104 (dk_at dksX4_shunt_2 9 rfl rfl)
theorem dX4_shunt_56 : decode cX4_shunt 56 = .ok (.iload_n 2, 1) := dk_28 (dk_at dksX4_shunt_2 10 rfl rfl)
theorem dX4_shunt_57 : decode cX4_shunt 57 = .ok (.iadd, 1) := dk_96 (dk_at dksX4_shunt_2 11 rfl rfl)
theorem dX4_shunt_58 : decode cX4_shunt 58 = .ok (.iaload, 1) := dk_46 (dk_at dksX4_shunt_2 12 rfl rfl)
theorem dX4_shunt_59 : decode cX4_shunt 59 = .ok (.iload 4, 2) := dk_21 4 (dk_at dksX4_shunt_2 13 rfl rfl)
theorem dX4_shunt_61 : decode cX4_shunt 61 = .ok (.if_icmp .lt 21, 3) := dk_161 0 21 (dk_at dksX4_shunt_2 15 rfl rfl)
theorem dX4_shunt_64 : decode cX4_shunt 64 = .ok (.aload_n 0, 1) := dk_42 (dk_at dksX4_shunt_2 18 rfl rfl)
theorem dX4_shunt_65 : decode cX4_shunt 65 = .ok (.getfield 19, 3) := dk_180 0 19 (dk_at dksX4_shunt_2 19 rfl rfl)
theorem dX4_shunt_68 : decode cX4_shunt 68 = .ok (.iconst 5, 1) := dk_8 (dk_at dksX4_shunt_2 22 rfl rfl)
theorem dX4_shunt_69 : decode cX4_shunt 69 = .ok (.iload_n 1, 1) := dk_27 (dk_at dksX4_shunt_2 23 rfl rfl)
theorem dX4_shunt_70 : decode cX4_shunt 70 = .ok (.imul, 1) := dk_104 (dk_at dksX4_shunt_3 0 rfl rfl)
theorem dX4_shunt_71 : decode cX4_shunt 71 = .ok (.iload_n 3, 1) := dk_29 (dk_at dksX4_shunt_3 1 rfl rfl)
theorem dX4_shunt_72 : decode cX4_shunt 72 = .ok (.iadd, 1) := dk_96 (dk_at dksX4_shunt_3 2 rfl rfl)
theorem dX4_shunt_73 : decode cX4_shunt 73 = .ok (.iaload, 1) := dk_46 (dk_at dksX4_shunt_3 3 rfl rfl)
theorem dX4_shunt_74 : decode cX4_shunt 74 = .ok (.iload 4, 2) := dk_21 4 (dk_at dksX4_shunt_3 4 rfl rfl)
theorem dX4_shunt_76 : decode cX4_shunt 76 = .ok (.iadd, 1) := dk_96 (dk_at dksX4_shunt_3 6 rfl rfl)
theorem dX4_shunt_77 : decode cX4_shunt 77 = .ok (.bipush 6, 2) := dk_16 6 (dk_at dksX4_shunt_3 7 rfl rfl)
theorem dX4_shunt_79 : decode cX4_shunt 79 = .ok (.if_icmp .le 7, 3) := dk_164 0 7 (dk_at dksX4_shunt_3 9 rfl rfl)
theorem dX4_shunt_82 : decode cX4_shunt 82 = .ok (.iconst 2, 1) := dk_5 (dk_at dksX4_shunt_3 12 rfl rfl)
theorem dX4_shunt_83 : decode cX4_shunt 83 = .ok (.goto 4, 3) := dk_167 0 4 (dk_at dksX4_shunt_3 13 rfl rfl)
theorem dX4_shunt_86 : decode cX4_shunt 86 = .ok (.iconst 0, 1) := dk_3 (dk_at dksX4_shunt_3 16 rfl rfl)
theorem dX4_shunt_87 : decode cX4_shunt 87 = .ok (.putfield 80, 3) := dk_181 0 80 (dk_at dksX4_shunt_3 17 rfl rfl)
theorem dX4_shunt_90 : decode cX4_shunt 90 = .ok (.aload_n 0, 1) := dk_42 (dk_at dksX4_shunt_3 20 rfl rfl)
theorem dX4_shunt_91 : decode cX4_shunt 91 = .ok (.getfield 80, 3) := dk_180 0 80 (dk_at dksX4_shunt_3 21 rfl rfl)
theorem dX4_shunt_94 : decode cX4_shunt 94 = .ok (.ifCond .le 5, 3) := dk_158 0 5 (dk_at dksX4_shunt_4 0 rfl rfl)
theorem dX4_shunt_97 : decode cX4_shunt 97 = .ok (.iconst 0, 1) := dk_3 (dk_at dksX4_shunt_4 3 rfl rfl)
theorem dX4_shunt_98 : decode cX4_shunt 98 = .ok (.ireturn, 1) := dk_172 (dk_at dksX4_shunt_4 4 rfl rfl)
theorem dX4_shunt_99 : decode cX4_shunt 99 = .ok (.iconst 5, 1) := dk_8 (dk_at dksX4_shunt_4 5 rfl rfl)
theorem dX4_shunt_100 : decode cX4_shunt 100 = .ok (.iload_n 1, 1) := dk_27 (dk_at dksX4_shunt_4 6 rfl rfl)
theorem dX4_shunt_101 : decode cX4_shunt 101 = .ok (.imul, 1) := dk_104 (dk_at dksX4_shunt_4 7 rfl rfl)
theorem dX4_shunt_102 : decode cX4_shunt 102 = .ok (.iload_n 2, 1) := dk_28 (dk_at dksX4_shunt_4 8 rfl rfl)
theorem dX4_shunt_103 : decode cX4_shunt 103 = .ok (.iadd, 1) := dk_96 (dk_at dksX4_shunt_4 9 rfl rfl)
theorem dX4_shunt_104 : decode cX4_shunt 104 = .ok (.istore 6, 2) := dk_54 6 (dk_at dksX4_shunt_4 10 rfl rfl)
theorem dX4_shunt_106 : decode cX4_shunt 106 = .ok (.aload_n 0, 1) := dk_42 (dk_at dksX4_shunt_4 12 rfl rfl)
theorem dX4_shunt_107 : decode cX4_shunt 107 = .ok (.getfield 19, 3) := dk_180 0 19 (dk_at dksX4_shunt_4 13 rfl rfl)
theorem dX4_shunt_110 : decode cX4_shunt 110 = .ok (.iload 6, 2) := dk_21 6 (dk_at dksX4_shunt_4 16 rfl rfl)
theorem dX4_shunt_112 : decode cX4_shunt 112 = .ok (.dup2, 1) := dk_92 (dk_at dksX4_shunt_4 18 rfl rfl)
theorem dX4_shunt_113 : decode cX4_shunt 113 = .ok (.iaload, 1) := dk_46 (dk_at dksX4_shunt_4 19 rfl rfl)
theorem dX4_shunt_114 : decode cX4_shunt 114 = .ok (.iload 4, 2) := dk_21 4 (dk_at dksX4_shunt_4 20 rfl rfl)
theorem dX4_shunt_116 : decode cX4_shunt 116 = .ok (.isub, 1) := dk_100 (dk_at dksX4_shunt_4 22 rfl rfl)
theorem dX4_shunt_117 : decode cX4_shunt 117 = .ok (.iastore, 1) := dk_79 (dk_at dksX4_shunt_4 23 rfl rfl)
theorem dX4_shunt_118 : decode cX4_shunt 118 = .ok (.iconst 0, 1) := dk_3 (dk_at dksX4_shunt_5 0 rfl rfl)
theorem dX4_shunt_119 : decode cX4_shunt 119 = .ok (.istore 7, 2) := dk_54 7 (dk_at dksX4_shunt_5 1 rfl rfl)
theorem dX4_shunt_121 : decode cX4_shunt 121 = .ok (.iload 7, 2) := dk_21 7 (dk_at dksX4_shunt_5 3 rfl rfl)
theorem dX4_shunt_123 : decode cX4_shunt 123 = .ok (.iload 4, 2) := dk_21 4 (dk_at dksX4_shunt_5 5 rfl rfl)
theorem dX4_shunt_125 : decode cX4_shunt 125 = .ok (.if_icmp .ge 36, 3) := dk_162 0 36 (dk_at dksX4_shunt_5 7 rfl rfl)
theorem dX4_shunt_128 : decode cX4_shunt 128 = .ok (.aload_n 0, 1) := dk_42 (dk_at dksX4_shunt_5 10 rfl rfl)
theorem dX4_shunt_129 : decode cX4_shunt 129 = .ok (.iload_n 1, 1) := dk_27 (dk_at dksX4_shunt_5 11 rfl rfl)
theorem dX4_shunt_130 : decode cX4_shunt 130 = .ok (.iload_n 3, 1) := dk_29 (dk_at dksX4_shunt_5 12 rfl rfl)
theorem dX4_shunt_131 : decode cX4_shunt 131 = .ok (.aload_n 0, 1) := dk_42 (dk_at dksX4_shunt_5 13 rfl rfl)
theorem dX4_shunt_132 : decode cX4_shunt 132 = .ok (.getfield 22, 3) := dk_180 0 22 (dk_at dksX4_shunt_5 14 rfl rfl)
theorem dX4_shunt_135 : decode cX4_shunt 135 = .ok (.bipush 6, 2) := dk_16 6 (dk_at dksX4_shunt_5 17 rfl rfl)
theorem dX4_shunt_137 : decode cX4_shunt 137 = .ok (.iload 6, 2) := dk_21 6 (dk_at dksX4_shunt_5 19 rfl rfl)
theorem dX4_shunt_139 : decode cX4_shunt 139 = .ok (.imul, 1) := dk_104 (dk_at dksX4_shunt_5 21 rfl rfl)
theorem dX4_shunt_140 : decode cX4_shunt 140 = .ok (.aload_n 0, 1) := dk_42 (dk_at dksX4_shunt_5 22 rfl rfl)
theorem dX4_shunt_141 : decode cX4_shunt 141 = .ok (.getfield 19, 3) := dk_180 0 19 (dk_at dksX4_shunt_6 0 rfl rfl)
theorem dX4_shunt_144 : decode cX4_shunt 144 = .ok (.iload 6, 2) := dk_21 6 (dk_at dksX4_shunt_6 3 rfl rfl)
theorem dX4_shunt_146 : decode cX4_shunt 146 = .ok (.iaload, 1) := dk_46 (dk_at dksX4_shunt_6 5 rfl rfl)
theorem dX4_shunt_147 : decode cX4_shunt 147 = .ok (.iadd, 1) := dk_96 (dk_at dksX4_shunt_6 6 rfl rfl)
theorem dX4_shunt_148 : decode cX4_shunt 148 = .ok (.iload 7, 2) := dk_21 7 (dk_at dksX4_shunt_6 7 rfl rfl)
theorem dX4_shunt_150 : decode cX4_shunt 150 = .ok (.iadd, 1) := dk_96 (dk_at dksX4_shunt_6 9 rfl rfl)
theorem dX4_shunt_151 : decode cX4_shunt 151 = .ok (.iaload, 1) := dk_46 (dk_at dksX4_shunt_6 10 rfl rfl)
theorem dX4_shunt_152 : decode cX4_shunt 152 = .ok (.invokevirtual 99, 3) := dk_182 0 99 (dk_at dksX4_shunt_6 11 rfl rfl)
theorem dX4_shunt_155 : decode cX4_shunt 155 = .ok (.iinc 7 1, 3) := dk_132 7 1 (dk_at dksX4_shunt_6 14 rfl rfl)
theorem dX4_shunt_158 : decode cX4_shunt 158 = .ok (.goto (-37), 3) := dk_167 255 219 (dk_at dksX4_shunt_6 17 rfl rfl)
theorem dX4_shunt_161 : decode cX4_shunt 161 = .ok (.aload_n 0, 1) := dk_42 (dk_at dksX4_shunt_6 20 rfl rfl)
theorem dX4_shunt_162 : decode cX4_shunt 162 = .ok (.getfield 19, 3) := dk_180 0 19 (dk_at dksX4_shunt_6 21 rfl rfl)
theorem dX4_shunt_165 : decode cX4_shunt 165 = .ok (.iconst 5, 1) := dk_8 (dk_at dksX4_shunt_7 0 rfl rfl)
theorem dX4_shunt_166 : decode cX4_shunt 166 = .ok (.iload_n 1, 1) := dk_27 (dk_at dksX4_shunt_7 1 rfl rfl)
theorem dX4_shunt_167 : decode cX4_shunt 167 = .ok (.imul, 1) := dk_104 (dk_at dksX4_shunt_7 2 rfl rfl)
theorem dX4_shunt_168 : decode cX4_shunt 168 = .ok (.iload_n 3, 1) := dk_29 (dk_at dksX4_shunt_7 3 rfl rfl)
theorem dX4_shunt_169 : decode cX4_shunt 169 = .ok (.iadd, 1) := dk_96 (dk_at dksX4_shunt_7 4 rfl rfl)
theorem dX4_shunt_170 : decode cX4_shunt 170 = .ok (.iaload, 1) := dk_46 (dk_at dksX4_shunt_7 5 rfl rfl)
theorem dX4_shunt_171 : decode cX4_shunt 171 = .ok (.ireturn, 1) := dk_172 (dk_at dksX4_shunt_7 6 rfl rfl)
abbrev cX4_wash : ByteArray := prog_19_method_11_code
def yX4_wash : MethodName := ⟨RX4, "wash", "(I)I"⟩
def dkwX4_wash_3 : List UInt8 := [180, 0, 13, 29, 2, 79, 21, 4, 172]
abbrev dktX4_wash_3 : List UInt8 := dkwX4_wash_3 ++ []
def dkwX4_wash_2 : List UInt8 := [16, 6, 28, 104, 42, 180, 0, 19, 28, 46, 96, 4, 100, 46, 62, 42, 180, 0, 13, 29, 46, 54, 4, 42]
abbrev dktX4_wash_2 : List UInt8 := dkwX4_wash_2 ++ dktX4_wash_3
def dkwX4_wash_1 : List UInt8 := [167, 0, 4, 3, 181, 0, 80, 42, 180, 0, 80, 158, 0, 5, 3, 172, 8, 27, 104, 61, 42, 180, 0, 22]
abbrev dktX4_wash_1 : List UInt8 := dkwX4_wash_1 ++ dktX4_wash_2
def dkwX4_wash_0 : List UInt8 := [42, 27, 184, 0, 88, 154, 0, 7, 4, 167, 0, 19, 42, 180, 0, 19, 8, 27, 104, 46, 154, 0, 7, 5]
abbrev dktX4_wash_0 : List UInt8 := dkwX4_wash_0 ++ dktX4_wash_1
theorem dksX4_wash_0 : cX4_wash.data.toList.drop 0 = dktX4_wash_0 := by decide +kernel
theorem dksX4_wash_1 : cX4_wash.data.toList.drop 24 = dktX4_wash_1 := dk_seg dksX4_wash_0 24 rfl rfl
theorem dksX4_wash_2 : cX4_wash.data.toList.drop 48 = dktX4_wash_2 := dk_seg dksX4_wash_1 24 rfl rfl
theorem dksX4_wash_3 : cX4_wash.data.toList.drop 72 = dktX4_wash_3 := dk_seg dksX4_wash_2 24 rfl rfl
theorem dX4_wash_0 : decode cX4_wash 0 = .ok (.aload_n 0, 1) := dk_42 (dk_at dksX4_wash_0 0 rfl rfl)
theorem dX4_wash_1 : decode cX4_wash 1 = .ok (.iload_n 1, 1) := dk_27 (dk_at dksX4_wash_0 1 rfl rfl)
theorem dX4_wash_2 : decode cX4_wash 2 = .ok (.invokestatic 88, 3) := dk_184 0 88 (dk_at dksX4_wash_0 2 rfl rfl)
theorem dX4_wash_5 : decode cX4_wash 5 = .ok (.ifCond .ne 7, 3) := dk_154 0 7 (dk_at dksX4_wash_0 5 rfl rfl)
theorem dX4_wash_8 : decode cX4_wash 8 = .ok (.iconst 1, 1) := dk_4 (dk_at dksX4_wash_0 8 rfl rfl)
theorem dX4_wash_9 : decode cX4_wash 9 = .ok (.goto 19, 3) := dk_167 0 19 (dk_at dksX4_wash_0 9 rfl rfl)
theorem dX4_wash_12 : decode cX4_wash 12 = .ok (.aload_n 0, 1) := dk_42 (dk_at dksX4_wash_0 12 rfl rfl)
theorem dX4_wash_13 : decode cX4_wash 13 = .ok (.getfield 19, 3) := dk_180 0 19 (dk_at dksX4_wash_0 13 rfl rfl)
theorem dX4_wash_16 : decode cX4_wash 16 = .ok (.iconst 5, 1) := dk_8 (dk_at dksX4_wash_0 16 rfl rfl)
theorem dX4_wash_17 : decode cX4_wash 17 = .ok (.iload_n 1, 1) := dk_27 (dk_at dksX4_wash_0 17 rfl rfl)
theorem dX4_wash_18 : decode cX4_wash 18 = .ok (.imul, 1) := dk_104 (dk_at dksX4_wash_0 18 rfl rfl)
theorem dX4_wash_19 : decode cX4_wash 19 = .ok (.iaload, 1) := dk_46 (dk_at dksX4_wash_0 19 rfl rfl)
theorem dX4_wash_20 : decode cX4_wash 20 = .ok (.ifCond .ne 7, 3) := dk_154 0 7 (dk_at dksX4_wash_0 20 rfl rfl)
theorem dX4_wash_23 : decode cX4_wash 23 = .ok (.iconst 2, 1) := dk_5 (dk_at dksX4_wash_0 23 rfl rfl)
theorem dX4_wash_24 : decode cX4_wash 24 = .ok (.goto 4, 3) := dk_167 0 4 (dk_at dksX4_wash_1 0 rfl rfl)
theorem dX4_wash_27 : decode cX4_wash 27 = .ok (.iconst 0, 1) := dk_3 (dk_at dksX4_wash_1 3 rfl rfl)
theorem dX4_wash_28 : decode cX4_wash 28 = .ok (.putfield 80, 3) := dk_181 0 80 (dk_at dksX4_wash_1 4 rfl rfl)
theorem dX4_wash_31 : decode cX4_wash 31 = .ok (.aload_n 0, 1) := dk_42 (dk_at dksX4_wash_1 7 rfl rfl)
theorem dX4_wash_32 : decode cX4_wash 32 = .ok (.getfield 80, 3) := dk_180 0 80 (dk_at dksX4_wash_1 8 rfl rfl)
theorem dX4_wash_35 : decode cX4_wash 35 = .ok (.ifCond .le 5, 3) := dk_158 0 5 (dk_at dksX4_wash_1 11 rfl rfl)
theorem dX4_wash_38 : decode cX4_wash 38 = .ok (.iconst 0, 1) := dk_3 (dk_at dksX4_wash_1 14 rfl rfl)
theorem dX4_wash_39 : decode cX4_wash 39 = .ok (.ireturn, 1) := dk_172 (dk_at dksX4_wash_1 15 rfl rfl)
theorem dX4_wash_40 : decode cX4_wash 40 = .ok (.iconst 5, 1) := dk_8 (dk_at dksX4_wash_1 16 rfl rfl)
theorem dX4_wash_41 : decode cX4_wash 41 = .ok (.iload_n 1, 1) := dk_27 (dk_at dksX4_wash_1 17 rfl rfl)
theorem dX4_wash_42 : decode cX4_wash 42 = .ok (.imul, 1) := dk_104 (dk_at dksX4_wash_1 18 rfl rfl)
theorem dX4_wash_43 : decode cX4_wash 43 = .ok (.istore_n 2, 1) := dk_61 (dk_at dksX4_wash_1 19 rfl rfl)
theorem dX4_wash_44 : decode cX4_wash 44 = .ok (.aload_n 0, 1) := dk_42 (dk_at dksX4_wash_1 20 rfl rfl)
theorem dX4_wash_45 : decode cX4_wash 45 = .ok (.getfield 22, 3) := dk_180 0 22 (dk_at dksX4_wash_1 21 rfl rfl)
theorem dX4_wash_48 : decode cX4_wash 48 = .ok (.bipush 6, 2) := dk_16 6 (dk_at dksX4_wash_2 0 rfl rfl)
theorem dX4_wash_50 : decode cX4_wash 50 = .ok (.iload_n 2, 1) := dk_28 (dk_at dksX4_wash_2 2 rfl rfl)
theorem dX4_wash_51 : decode cX4_wash 51 = .ok (.imul, 1) := dk_104 (dk_at dksX4_wash_2 3 rfl rfl)
theorem dX4_wash_52 : decode cX4_wash 52 = .ok (.aload_n 0, 1) := dk_42 (dk_at dksX4_wash_2 4 rfl rfl)
theorem dX4_wash_53 : decode cX4_wash 53 = .ok (.getfield 19, 3) := dk_180 0 19 (dk_at dksX4_wash_2 5 rfl rfl)
theorem dX4_wash_56 : decode cX4_wash 56 = .ok (.iload_n 2, 1) := dk_28 (dk_at dksX4_wash_2 8 rfl rfl)
theorem dX4_wash_57 : decode cX4_wash 57 = .ok (.iaload, 1) := dk_46 (dk_at dksX4_wash_2 9 rfl rfl)
theorem dX4_wash_58 : decode cX4_wash 58 = .ok (.iadd, 1) := dk_96 (dk_at dksX4_wash_2 10 rfl rfl)
theorem dX4_wash_59 : decode cX4_wash 59 = .ok (.iconst 1, 1) := dk_4 (dk_at dksX4_wash_2 11 rfl rfl)
theorem dX4_wash_60 : decode cX4_wash 60 = .ok (.isub, 1) := dk_100 (dk_at dksX4_wash_2 12 rfl rfl)
theorem dX4_wash_61 : decode cX4_wash 61 = .ok (.iaload, 1) := dk_46 (dk_at dksX4_wash_2 13 rfl rfl)
theorem dX4_wash_62 : decode cX4_wash 62 = .ok (.istore_n 3, 1) := dk_62 (dk_at dksX4_wash_2 14 rfl rfl)
theorem dX4_wash_63 : decode cX4_wash 63 = .ok (.aload_n 0, 1) := dk_42 (dk_at dksX4_wash_2 15 rfl rfl)
theorem dX4_wash_64 : decode cX4_wash 64 = .ok (.getfield 13, 3) := dk_180 0 13 (dk_at dksX4_wash_2 16 rfl rfl)
theorem dX4_wash_67 : decode cX4_wash 67 = .ok (.iload_n 3, 1) := dk_29 (dk_at dksX4_wash_2 19 rfl rfl)
theorem dX4_wash_68 : decode cX4_wash 68 = .ok (.iaload, 1) := dk_46 (dk_at dksX4_wash_2 20 rfl rfl)
theorem dX4_wash_69 : decode cX4_wash 69 = .ok (.istore 4, 2) := dk_54 4 (dk_at dksX4_wash_2 21 rfl rfl)
theorem dX4_wash_71 : decode cX4_wash 71 = .ok (.aload_n 0, 1) := dk_42 (dk_at dksX4_wash_2 23 rfl rfl)
theorem dX4_wash_72 : decode cX4_wash 72 = .ok (.getfield 13, 3) := dk_180 0 13 (dk_at dksX4_wash_3 0 rfl rfl)
theorem dX4_wash_75 : decode cX4_wash 75 = .ok (.iload_n 3, 1) := dk_29 (dk_at dksX4_wash_3 3 rfl rfl)
theorem dX4_wash_76 : decode cX4_wash 76 = .ok (.iconst (-1), 1) := dk_2 (dk_at dksX4_wash_3 4 rfl rfl)
theorem dX4_wash_77 : decode cX4_wash 77 = .ok (.iastore, 1) := dk_79 (dk_at dksX4_wash_3 5 rfl rfl)
theorem dX4_wash_78 : decode cX4_wash 78 = .ok (.iload 4, 2) := dk_21 4 (dk_at dksX4_wash_3 6 rfl rfl)
theorem dX4_wash_80 : decode cX4_wash 80 = .ok (.ireturn, 1) := dk_172 (dk_at dksX4_wash_3 8 rfl rfl)
abbrev cX4_follow : ByteArray := prog_19_method_12_code
def yX4_follow : MethodName := ⟨RX4, "follow", "(II)Z"⟩
def dkwX4_follow_2 : List UInt8 := [79, 42, 180, 0, 25, 27, 46, 28, 122, 4, 126, 4, 160, 0, 7, 4, 167, 0, 4, 3, 172]
abbrev dktX4_follow_2 : List UInt8 := dkwX4_follow_2 ++ []
def dkwX4_follow_1 : List UInt8 := [4, 181, 0, 80, 42, 180, 0, 80, 158, 0, 5, 3, 172, 42, 180, 0, 25, 27, 92, 46, 4, 28, 120, 130]
abbrev dktX4_follow_1 : List UInt8 := dkwX4_follow_1 ++ dktX4_follow_2
def dkwX4_follow_0 : List UInt8 := [42, 27, 184, 0, 103, 153, 0, 19, 28, 184, 0, 103, 153, 0, 12, 27, 28, 159, 0, 7, 3, 167, 0, 4]
abbrev dktX4_follow_0 : List UInt8 := dkwX4_follow_0 ++ dktX4_follow_1
theorem dksX4_follow_0 : cX4_follow.data.toList.drop 0 = dktX4_follow_0 := by decide +kernel
theorem dksX4_follow_1 : cX4_follow.data.toList.drop 24 = dktX4_follow_1 := dk_seg dksX4_follow_0 24 rfl rfl
theorem dksX4_follow_2 : cX4_follow.data.toList.drop 48 = dktX4_follow_2 := dk_seg dksX4_follow_1 24 rfl rfl
theorem dX4_follow_0 : decode cX4_follow 0 = .ok (.aload_n 0, 1) := dk_42 (dk_at dksX4_follow_0 0 rfl rfl)
theorem dX4_follow_1 : decode cX4_follow 1 = .ok (.iload_n 1, 1) := dk_27 (dk_at dksX4_follow_0 1 rfl rfl)
theorem dX4_follow_2 : decode cX4_follow 2 = .ok (.invokestatic 103, 3) := dk_184 0 103 (dk_at dksX4_follow_0 2 rfl rfl)
theorem dX4_follow_5 : decode cX4_follow 5 = .ok (.ifCond .eq 19, 3) := dk_153 0 19 (dk_at dksX4_follow_0 5 rfl rfl)
theorem dX4_follow_8 : decode cX4_follow 8 = .ok (.iload_n 2, 1) := dk_28 (dk_at dksX4_follow_0 8 rfl rfl)
theorem dX4_follow_9 : decode cX4_follow 9 = .ok (.invokestatic 103, 3) := dk_184 0 103 (dk_at dksX4_follow_0 9 rfl rfl)
theorem dX4_follow_12 : decode cX4_follow 12 = .ok (.ifCond .eq 12, 3) := dk_153 0 12 (dk_at dksX4_follow_0 12 rfl rfl)
theorem dX4_follow_15 : decode cX4_follow 15 = .ok (.iload_n 1, 1) := dk_27 (dk_at dksX4_follow_0 15 rfl rfl)
theorem dX4_follow_16 : decode cX4_follow 16 = .ok (.iload_n 2, 1) := dk_28 (dk_at dksX4_follow_0 16 rfl rfl)
theorem dX4_follow_17 : decode cX4_follow 17 = .ok (.if_icmp .eq 7, 3) := dk_159 0 7 (dk_at dksX4_follow_0 17 rfl rfl)
theorem dX4_follow_20 : decode cX4_follow 20 = .ok (.iconst 0, 1) := dk_3 (dk_at dksX4_follow_0 20 rfl rfl)
theorem dX4_follow_21 : decode cX4_follow 21 = .ok (.goto 4, 3) := dk_167 0 4 (dk_at dksX4_follow_0 21 rfl rfl)
theorem dX4_follow_24 : decode cX4_follow 24 = .ok (.iconst 1, 1) := dk_4 (dk_at dksX4_follow_1 0 rfl rfl)
theorem dX4_follow_25 : decode cX4_follow 25 = .ok (.putfield 80, 3) := dk_181 0 80 (dk_at dksX4_follow_1 1 rfl rfl)
theorem dX4_follow_28 : decode cX4_follow 28 = .ok (.aload_n 0, 1) := dk_42 (dk_at dksX4_follow_1 4 rfl rfl)
theorem dX4_follow_29 : decode cX4_follow 29 = .ok (.getfield 80, 3) := dk_180 0 80 (dk_at dksX4_follow_1 5 rfl rfl)
theorem dX4_follow_32 : decode cX4_follow 32 = .ok (.ifCond .le 5, 3) := dk_158 0 5 (dk_at dksX4_follow_1 8 rfl rfl)
theorem dX4_follow_35 : decode cX4_follow 35 = .ok (.iconst 0, 1) := dk_3 (dk_at dksX4_follow_1 11 rfl rfl)
theorem dX4_follow_36 : decode cX4_follow 36 = .ok (.ireturn, 1) := dk_172 (dk_at dksX4_follow_1 12 rfl rfl)
theorem dX4_follow_37 : decode cX4_follow 37 = .ok (.aload_n 0, 1) := dk_42 (dk_at dksX4_follow_1 13 rfl rfl)
theorem dX4_follow_38 : decode cX4_follow 38 = .ok (.getfield 25, 3) := dk_180 0 25 (dk_at dksX4_follow_1 14 rfl rfl)
theorem dX4_follow_41 : decode cX4_follow 41 = .ok (.iload_n 1, 1) := dk_27 (dk_at dksX4_follow_1 17 rfl rfl)
theorem dX4_follow_42 : decode cX4_follow 42 = .ok (.dup2, 1) := dk_92 (dk_at dksX4_follow_1 18 rfl rfl)
theorem dX4_follow_43 : decode cX4_follow 43 = .ok (.iaload, 1) := dk_46 (dk_at dksX4_follow_1 19 rfl rfl)
theorem dX4_follow_44 : decode cX4_follow 44 = .ok (.iconst 1, 1) := dk_4 (dk_at dksX4_follow_1 20 rfl rfl)
theorem dX4_follow_45 : decode cX4_follow 45 = .ok (.iload_n 2, 1) := dk_28 (dk_at dksX4_follow_1 21 rfl rfl)
theorem dX4_follow_46 : decode cX4_follow 46 = .ok (.ishl, 1) := dk_120 (dk_at dksX4_follow_1 22 rfl rfl)
theorem dX4_follow_47 : decode cX4_follow 47 = .ok (.ixor, 1) := dk_130 (dk_at dksX4_follow_1 23 rfl rfl)
theorem dX4_follow_48 : decode cX4_follow 48 = .ok (.iastore, 1) := dk_79 (dk_at dksX4_follow_2 0 rfl rfl)
theorem dX4_follow_49 : decode cX4_follow 49 = .ok (.aload_n 0, 1) := dk_42 (dk_at dksX4_follow_2 1 rfl rfl)
theorem dX4_follow_50 : decode cX4_follow 50 = .ok (.getfield 25, 3) := dk_180 0 25 (dk_at dksX4_follow_2 2 rfl rfl)
theorem dX4_follow_53 : decode cX4_follow 53 = .ok (.iload_n 1, 1) := dk_27 (dk_at dksX4_follow_2 5 rfl rfl)
theorem dX4_follow_54 : decode cX4_follow 54 = .ok (.iaload, 1) := dk_46 (dk_at dksX4_follow_2 6 rfl rfl)
theorem dX4_follow_55 : decode cX4_follow 55 = .ok (.iload_n 2, 1) := dk_28 (dk_at dksX4_follow_2 7 rfl rfl)
theorem dX4_follow_56 : decode cX4_follow 56 = .ok (.ishr, 1) := dk_122 (dk_at dksX4_follow_2 8 rfl rfl)
theorem dX4_follow_57 : decode cX4_follow 57 = .ok (.iconst 1, 1) := dk_4 (dk_at dksX4_follow_2 9 rfl rfl)
theorem dX4_follow_58 : decode cX4_follow 58 = .ok (.iand, 1) := dk_126 (dk_at dksX4_follow_2 10 rfl rfl)
theorem dX4_follow_59 : decode cX4_follow 59 = .ok (.iconst 1, 1) := dk_4 (dk_at dksX4_follow_2 11 rfl rfl)
theorem dX4_follow_60 : decode cX4_follow 60 = .ok (.if_icmp .ne 7, 3) := dk_160 0 7 (dk_at dksX4_follow_2 12 rfl rfl)
theorem dX4_follow_63 : decode cX4_follow 63 = .ok (.iconst 1, 1) := dk_4 (dk_at dksX4_follow_2 15 rfl rfl)
theorem dX4_follow_64 : decode cX4_follow 64 = .ok (.goto 4, 3) := dk_167 0 4 (dk_at dksX4_follow_2 16 rfl rfl)
theorem dX4_follow_67 : decode cX4_follow 67 = .ok (.iconst 0, 1) := dk_3 (dk_at dksX4_follow_2 19 rfl rfl)
theorem dX4_follow_68 : decode cX4_follow 68 = .ok (.ireturn, 1) := dk_172 (dk_at dksX4_follow_2 20 rfl rfl)
abbrev cX4_isGrain : ByteArray := prog_19_method_6_code
def yX4_isGrain : MethodName := ⟨RX4, "isGrain", "(I)Z"⟩
def dkwX4_isGrain_0 : List UInt8 := [26, 3, 6, 184, 0, 84, 172]
abbrev dktX4_isGrain_0 : List UInt8 := dkwX4_isGrain_0 ++ []
theorem dksX4_isGrain_0 : cX4_isGrain.data.toList.drop 0 = dktX4_isGrain_0 := by decide +kernel
theorem dX4_isGrain_0 : decode cX4_isGrain 0 = .ok (.iload_n 0, 1) := dk_26 (dk_at dksX4_isGrain_0 0 rfl rfl)
theorem dX4_isGrain_1 : decode cX4_isGrain 1 = .ok (.iconst 0, 1) := dk_3 (dk_at dksX4_isGrain_0 1 rfl rfl)
theorem dX4_isGrain_2 : decode cX4_isGrain 2 = .ok (.iconst 3, 1) := dk_6 (dk_at dksX4_isGrain_0 2 rfl rfl)
theorem dX4_isGrain_3 : decode cX4_isGrain 3 = .ok (.invokestatic 84, 3) := dk_184 0 84 (dk_at dksX4_isGrain_0 3 rfl rfl)
theorem dX4_isGrain_6 : decode cX4_isGrain 6 = .ok (.ireturn, 1) := dk_172 (dk_at dksX4_isGrain_0 6 rfl rfl)
abbrev cX4_on : ByteArray := prog_19_method_13_code
def yX4_on : MethodName := ⟨RX4, "on", "(II)I"⟩
def dkwX4_on_1 : List UInt8 := [3, 167, 0, 13, 42, 180, 0, 19, 8, 27, 104, 28, 96, 46, 172]
abbrev dktX4_on_1 : List UInt8 := dkwX4_on_1 ++ []
def dkwX4_on_0 : List UInt8 := [42, 27, 28, 184, 0, 95, 153, 0, 7, 3, 167, 0, 4, 4, 181, 0, 80, 42, 180, 0, 80, 158, 0, 7]
abbrev dktX4_on_0 : List UInt8 := dkwX4_on_0 ++ dktX4_on_1
theorem dksX4_on_0 : cX4_on.data.toList.drop 0 = dktX4_on_0 := by decide +kernel
theorem dksX4_on_1 : cX4_on.data.toList.drop 24 = dktX4_on_1 := dk_seg dksX4_on_0 24 rfl rfl
theorem dX4_on_0 : decode cX4_on 0 = .ok (.aload_n 0, 1) := dk_42 (dk_at dksX4_on_0 0 rfl rfl)
theorem dX4_on_1 : decode cX4_on 1 = .ok (.iload_n 1, 1) := dk_27 (dk_at dksX4_on_0 1 rfl rfl)
theorem dX4_on_2 : decode cX4_on 2 = .ok (.iload_n 2, 1) := dk_28 (dk_at dksX4_on_0 2 rfl rfl)
theorem dX4_on_3 : decode cX4_on 3 = .ok (.invokestatic 95, 3) := dk_184 0 95 (dk_at dksX4_on_0 3 rfl rfl)
theorem dX4_on_6 : decode cX4_on 6 = .ok (.ifCond .eq 7, 3) := dk_153 0 7 (dk_at dksX4_on_0 6 rfl rfl)
theorem dX4_on_9 : decode cX4_on 9 = .ok (.iconst 0, 1) := dk_3 (dk_at dksX4_on_0 9 rfl rfl)
theorem dX4_on_10 : decode cX4_on 10 = .ok (.goto 4, 3) := dk_167 0 4 (dk_at dksX4_on_0 10 rfl rfl)
theorem dX4_on_13 : decode cX4_on 13 = .ok (.iconst 1, 1) := dk_4 (dk_at dksX4_on_0 13 rfl rfl)
theorem dX4_on_14 : decode cX4_on 14 = .ok (.putfield 80, 3) := dk_181 0 80 (dk_at dksX4_on_0 14 rfl rfl)
theorem dX4_on_17 : decode cX4_on 17 = .ok (.aload_n 0, 1) := dk_42 (dk_at dksX4_on_0 17 rfl rfl)
theorem dX4_on_18 : decode cX4_on 18 = .ok (.getfield 80, 3) := dk_180 0 80 (dk_at dksX4_on_0 18 rfl rfl)
theorem dX4_on_21 : decode cX4_on 21 = .ok (.ifCond .le 7, 3) := dk_158 0 7 (dk_at dksX4_on_0 21 rfl rfl)
theorem dX4_on_24 : decode cX4_on 24 = .ok (.iconst 0, 1) := dk_3 (dk_at dksX4_on_1 0 rfl rfl)
theorem dX4_on_25 : decode cX4_on 25 = .ok (.goto 13, 3) := dk_167 0 13 (dk_at dksX4_on_1 1 rfl rfl)
theorem dX4_on_28 : decode cX4_on 28 = .ok (.aload_n 0, 1) := dk_42 (dk_at dksX4_on_1 4 rfl rfl)
theorem dX4_on_29 : decode cX4_on 29 = .ok (.getfield 19, 3) := dk_180 0 19 (dk_at dksX4_on_1 5 rfl rfl)
theorem dX4_on_32 : decode cX4_on 32 = .ok (.iconst 5, 1) := dk_8 (dk_at dksX4_on_1 8 rfl rfl)
theorem dX4_on_33 : decode cX4_on 33 = .ok (.iload_n 1, 1) := dk_27 (dk_at dksX4_on_1 9 rfl rfl)
theorem dX4_on_34 : decode cX4_on 34 = .ok (.imul, 1) := dk_104 (dk_at dksX4_on_1 10 rfl rfl)
theorem dX4_on_35 : decode cX4_on 35 = .ok (.iload_n 2, 1) := dk_28 (dk_at dksX4_on_1 11 rfl rfl)
theorem dX4_on_36 : decode cX4_on 36 = .ok (.iadd, 1) := dk_96 (dk_at dksX4_on_1 12 rfl rfl)
theorem dX4_on_37 : decode cX4_on 37 = .ok (.iaload, 1) := dk_46 (dk_at dksX4_on_1 13 rfl rfl)
theorem dX4_on_38 : decode cX4_on 38 = .ok (.ireturn, 1) := dk_172 (dk_at dksX4_on_1 14 rfl rfl)
abbrev cX4_at : ByteArray := prog_19_method_15_code
def yX4_at : MethodName := ⟨RX4, "at", "(III)I"⟩
def dkwX4_at_0 : List UInt8 := [42, 27, 28, 29, 182, 0, 106, 172]
abbrev dktX4_at_0 : List UInt8 := dkwX4_at_0 ++ []
theorem dksX4_at_0 : cX4_at.data.toList.drop 0 = dktX4_at_0 := by decide +kernel
theorem dX4_at_0 : decode cX4_at 0 = .ok (.aload_n 0, 1) := dk_42 (dk_at dksX4_at_0 0 rfl rfl)
theorem dX4_at_1 : decode cX4_at 1 = .ok (.iload_n 1, 1) := dk_27 (dk_at dksX4_at_0 1 rfl rfl)
theorem dX4_at_2 : decode cX4_at 2 = .ok (.iload_n 2, 1) := dk_28 (dk_at dksX4_at_0 2 rfl rfl)
theorem dX4_at_3 : decode cX4_at 3 = .ok (.iload_n 3, 1) := dk_29 (dk_at dksX4_at_0 3 rfl rfl)
theorem dX4_at_4 : decode cX4_at 4 = .ok (.invokevirtual 106, 3) := dk_182 0 106 (dk_at dksX4_at_0 4 rfl rfl)
theorem dX4_at_7 : decode cX4_at 7 = .ok (.ireturn, 1) := dk_172 (dk_at dksX4_at_0 7 rfl rfl)
abbrev cX4_wagonAt : ByteArray := prog_19_method_14_code
def yX4_wagonAt : MethodName := ⟨RX4, "wagonAt", "(III)I"⟩
def dkwX4_wagonAt_2 : List UInt8 := [3, 167, 0, 18, 42, 180, 0, 22, 16, 6, 8, 27, 104, 28, 96, 104, 29, 96, 46, 172]
abbrev dktX4_wagonAt_2 : List UInt8 := dkwX4_wagonAt_2 ++ []
def dkwX4_wagonAt_1 : List UInt8 := [46, 4, 100, 184, 0, 84, 153, 0, 7, 3, 167, 0, 4, 5, 181, 0, 80, 42, 180, 0, 80, 158, 0, 7]
abbrev dktX4_wagonAt_1 : List UInt8 := dkwX4_wagonAt_1 ++ dktX4_wagonAt_2
def dkwX4_wagonAt_0 : List UInt8 := [42, 27, 28, 184, 0, 95, 154, 0, 7, 4, 167, 0, 28, 29, 3, 42, 180, 0, 19, 8, 27, 104, 28, 96]
abbrev dktX4_wagonAt_0 : List UInt8 := dkwX4_wagonAt_0 ++ dktX4_wagonAt_1
theorem dksX4_wagonAt_0 : cX4_wagonAt.data.toList.drop 0 = dktX4_wagonAt_0 := by decide +kernel
theorem dksX4_wagonAt_1 : cX4_wagonAt.data.toList.drop 24 = dktX4_wagonAt_1 := dk_seg dksX4_wagonAt_0 24 rfl rfl
theorem dksX4_wagonAt_2 : cX4_wagonAt.data.toList.drop 48 = dktX4_wagonAt_2 := dk_seg dksX4_wagonAt_1 24 rfl rfl
theorem dX4_wagonAt_0 : decode cX4_wagonAt 0 = .ok (.aload_n 0, 1) := dk_42 (dk_at dksX4_wagonAt_0 0 rfl rfl)
theorem dX4_wagonAt_1 : decode cX4_wagonAt 1 = .ok (.iload_n 1, 1) := dk_27 (dk_at dksX4_wagonAt_0 1 rfl rfl)
theorem dX4_wagonAt_2 : decode cX4_wagonAt 2 = .ok (.iload_n 2, 1) := dk_28 (dk_at dksX4_wagonAt_0 2 rfl rfl)
theorem dX4_wagonAt_3 : decode cX4_wagonAt 3 = .ok (.invokestatic 95, 3) := dk_184 0 95 (dk_at dksX4_wagonAt_0 3 rfl rfl)
theorem dX4_wagonAt_6 : decode cX4_wagonAt 6 = .ok (.ifCond .ne 7, 3) := dk_154 0 7 (dk_at dksX4_wagonAt_0 6 rfl rfl)
theorem dX4_wagonAt_9 : decode cX4_wagonAt 9 = .ok (.iconst 1, 1) := dk_4 (dk_at dksX4_wagonAt_0 9 rfl rfl)
theorem dX4_wagonAt_10 : decode cX4_wagonAt 10 = .ok (.goto 28, 3) := dk_167 0 28 (dk_at dksX4_wagonAt_0 10 rfl rfl)
theorem dX4_wagonAt_13 : decode cX4_wagonAt 13 = .ok (.iload_n 3, 1) := dk_29 (dk_at dksX4_wagonAt_0 13 rfl rfl)
theorem dX4_wagonAt_14 : decode cX4_wagonAt 14 = .ok (.iconst 0, 1) := dk_3 (dk_at dksX4_wagonAt_0 14 rfl rfl)
theorem dX4_wagonAt_15 : decode cX4_wagonAt 15 = .ok (.aload_n 0, 1) := dk_42 (dk_at dksX4_wagonAt_0 15 rfl rfl)
theorem dX4_wagonAt_16 : decode cX4_wagonAt 16 = .ok (.getfield 19, 3) := dk_180 0 19 (dk_at dksX4_wagonAt_0 16 rfl rfl)
theorem dX4_wagonAt_19 : decode cX4_wagonAt 19 = .ok (.iconst 5, 1) := dk_8 (dk_at dksX4_wagonAt_0 19 rfl rfl)
theorem dX4_wagonAt_20 : decode cX4_wagonAt 20 = .ok (.iload_n 1, 1) := dk_27 (dk_at dksX4_wagonAt_0 20 rfl rfl)
theorem dX4_wagonAt_21 : decode cX4_wagonAt 21 = .ok (.imul, 1) := dk_104 (dk_at dksX4_wagonAt_0 21 rfl rfl)
theorem dX4_wagonAt_22 : decode cX4_wagonAt 22 = .ok (.iload_n 2, 1) := dk_28 (dk_at dksX4_wagonAt_0 22 rfl rfl)
theorem dX4_wagonAt_23 : decode cX4_wagonAt 23 = .ok (.iadd, 1) := dk_96 (dk_at dksX4_wagonAt_0 23 rfl rfl)
theorem dX4_wagonAt_24 : decode cX4_wagonAt 24 = .ok (.iaload, 1) := dk_46 (dk_at dksX4_wagonAt_1 0 rfl rfl)
theorem dX4_wagonAt_25 : decode cX4_wagonAt 25 = .ok (.iconst 1, 1) := dk_4 (dk_at dksX4_wagonAt_1 1 rfl rfl)
theorem dX4_wagonAt_26 : decode cX4_wagonAt 26 = .ok (.isub, 1) := dk_100 (dk_at dksX4_wagonAt_1 2 rfl rfl)
theorem dX4_wagonAt_27 : decode cX4_wagonAt 27 = .ok (.invokestatic 84, 3) := dk_184 0 84 (dk_at dksX4_wagonAt_1 3 rfl rfl)
theorem dX4_wagonAt_30 : decode cX4_wagonAt 30 = .ok (.ifCond .eq 7, 3) := dk_153 0 7 (dk_at dksX4_wagonAt_1 6 rfl rfl)
theorem dX4_wagonAt_33 : decode cX4_wagonAt 33 = .ok (.iconst 0, 1) := dk_3 (dk_at dksX4_wagonAt_1 9 rfl rfl)
theorem dX4_wagonAt_34 : decode cX4_wagonAt 34 = .ok (.goto 4, 3) := dk_167 0 4 (dk_at dksX4_wagonAt_1 10 rfl rfl)
theorem dX4_wagonAt_37 : decode cX4_wagonAt 37 = .ok (.iconst 2, 1) := dk_5 (dk_at dksX4_wagonAt_1 13 rfl rfl)
theorem dX4_wagonAt_38 : decode cX4_wagonAt 38 = .ok (.putfield 80, 3) := dk_181 0 80 (dk_at dksX4_wagonAt_1 14 rfl rfl)
theorem dX4_wagonAt_41 : decode cX4_wagonAt 41 = .ok (.aload_n 0, 1) := dk_42 (dk_at dksX4_wagonAt_1 17 rfl rfl)
theorem dX4_wagonAt_42 : decode cX4_wagonAt 42 = .ok (.getfield 80, 3) := dk_180 0 80 (dk_at dksX4_wagonAt_1 18 rfl rfl)
theorem dX4_wagonAt_45 : decode cX4_wagonAt 45 = .ok (.ifCond .le 7, 3) := dk_158 0 7 (dk_at dksX4_wagonAt_1 21 rfl rfl)
theorem dX4_wagonAt_48 : decode cX4_wagonAt 48 = .ok (.iconst 0, 1) := dk_3 (dk_at dksX4_wagonAt_2 0 rfl rfl)
theorem dX4_wagonAt_49 : decode cX4_wagonAt 49 = .ok (.goto 18, 3) := dk_167 0 18 (dk_at dksX4_wagonAt_2 1 rfl rfl)
theorem dX4_wagonAt_52 : decode cX4_wagonAt 52 = .ok (.aload_n 0, 1) := dk_42 (dk_at dksX4_wagonAt_2 4 rfl rfl)
theorem dX4_wagonAt_53 : decode cX4_wagonAt 53 = .ok (.getfield 22, 3) := dk_180 0 22 (dk_at dksX4_wagonAt_2 5 rfl rfl)
theorem dX4_wagonAt_56 : decode cX4_wagonAt 56 = .ok (.bipush 6, 2) := dk_16 6 (dk_at dksX4_wagonAt_2 8 rfl rfl)
theorem dX4_wagonAt_58 : decode cX4_wagonAt 58 = .ok (.iconst 5, 1) := dk_8 (dk_at dksX4_wagonAt_2 10 rfl rfl)
theorem dX4_wagonAt_59 : decode cX4_wagonAt 59 = .ok (.iload_n 1, 1) := dk_27 (dk_at dksX4_wagonAt_2 11 rfl rfl)
theorem dX4_wagonAt_60 : decode cX4_wagonAt 60 = .ok (.imul, 1) := dk_104 (dk_at dksX4_wagonAt_2 12 rfl rfl)
theorem dX4_wagonAt_61 : decode cX4_wagonAt 61 = .ok (.iload_n 2, 1) := dk_28 (dk_at dksX4_wagonAt_2 13 rfl rfl)
theorem dX4_wagonAt_62 : decode cX4_wagonAt 62 = .ok (.iadd, 1) := dk_96 (dk_at dksX4_wagonAt_2 14 rfl rfl)
theorem dX4_wagonAt_63 : decode cX4_wagonAt 63 = .ok (.imul, 1) := dk_104 (dk_at dksX4_wagonAt_2 15 rfl rfl)
theorem dX4_wagonAt_64 : decode cX4_wagonAt 64 = .ok (.iload_n 3, 1) := dk_29 (dk_at dksX4_wagonAt_2 16 rfl rfl)
theorem dX4_wagonAt_65 : decode cX4_wagonAt 65 = .ok (.iadd, 1) := dk_96 (dk_at dksX4_wagonAt_2 17 rfl rfl)
theorem dX4_wagonAt_66 : decode cX4_wagonAt 66 = .ok (.iaload, 1) := dk_46 (dk_at dksX4_wagonAt_2 18 rfl rfl)
theorem dX4_wagonAt_67 : decode cX4_wagonAt 67 = .ok (.ireturn, 1) := dk_172 (dk_at dksX4_wagonAt_2 19 rfl rfl)
abbrev cX4_atByReplay : ByteArray := prog_19_method_16_code
def yX4_atByReplay : MethodName := ⟨RX4, "atByReplay", "(III)I"⟩
def dkwX4_atByReplay_0 : List UInt8 := [42, 27, 28, 29, 182, 0, 106, 172]
abbrev dktX4_atByReplay_0 : List UInt8 := dkwX4_atByReplay_0 ++ []
theorem dksX4_atByReplay_0 : cX4_atByReplay.data.toList.drop 0 = dktX4_atByReplay_0 := by decide +kernel
theorem dX4_atByReplay_0 : decode cX4_atByReplay 0 = .ok (.aload_n 0, 1) := dk_42 (dk_at dksX4_atByReplay_0 0 rfl rfl)
theorem dX4_atByReplay_1 : decode cX4_atByReplay 1 = .ok (.iload_n 1, 1) := dk_27 (dk_at dksX4_atByReplay_0 1 rfl rfl)
theorem dX4_atByReplay_2 : decode cX4_atByReplay 2 = .ok (.iload_n 2, 1) := dk_28 (dk_at dksX4_atByReplay_0 2 rfl rfl)
theorem dX4_atByReplay_3 : decode cX4_atByReplay 3 = .ok (.iload_n 3, 1) := dk_29 (dk_at dksX4_atByReplay_0 3 rfl rfl)
theorem dX4_atByReplay_4 : decode cX4_atByReplay 4 = .ok (.invokevirtual 106, 3) := dk_182 0 106 (dk_at dksX4_atByReplay_0 4 rfl rfl)
theorem dX4_atByReplay_7 : decode cX4_atByReplay 7 = .ok (.ireturn, 1) := dk_172 (dk_at dksX4_atByReplay_0 7 rfl rfl)
abbrev cX4_where : ByteArray := prog_19_method_18_code
def yX4_where : MethodName := ⟨RX4, "where", "(I)I"⟩
def dkwX4_where_0 : List UInt8 := [42, 27, 182, 0, 113, 153, 0, 12, 42, 180, 0, 7, 27, 46, 167, 0, 4, 3, 172]
abbrev dktX4_where_0 : List UInt8 := dkwX4_where_0 ++ []
theorem dksX4_where_0 : cX4_where.data.toList.drop 0 = dktX4_where_0 := by decide +kernel
theorem dX4_where_0 : decode cX4_where 0 = .ok (.aload_n 0, 1) := dk_42 (dk_at dksX4_where_0 0 rfl rfl)
theorem dX4_where_1 : decode cX4_where 1 = .ok (.iload_n 1, 1) := dk_27 (dk_at dksX4_where_0 1 rfl rfl)
theorem dX4_where_2 : decode cX4_where 2 = .ok (.invokevirtual 113, 3) := dk_182 0 113 (dk_at dksX4_where_0 2 rfl rfl)
theorem dX4_where_5 : decode cX4_where 5 = .ok (.ifCond .eq 12, 3) := dk_153 0 12 (dk_at dksX4_where_0 5 rfl rfl)
theorem dX4_where_8 : decode cX4_where 8 = .ok (.aload_n 0, 1) := dk_42 (dk_at dksX4_where_0 8 rfl rfl)
theorem dX4_where_9 : decode cX4_where 9 = .ok (.getfield 7, 3) := dk_180 0 7 (dk_at dksX4_where_0 9 rfl rfl)
theorem dX4_where_12 : decode cX4_where 12 = .ok (.iload_n 1, 1) := dk_27 (dk_at dksX4_where_0 12 rfl rfl)
theorem dX4_where_13 : decode cX4_where 13 = .ok (.iaload, 1) := dk_46 (dk_at dksX4_where_0 13 rfl rfl)
theorem dX4_where_14 : decode cX4_where 14 = .ok (.goto 4, 3) := dk_167 0 4 (dk_at dksX4_where_0 14 rfl rfl)
theorem dX4_where_17 : decode cX4_where 17 = .ok (.iconst 0, 1) := dk_3 (dk_at dksX4_where_0 17 rfl rfl)
theorem dX4_where_18 : decode cX4_where 18 = .ok (.ireturn, 1) := dk_172 (dk_at dksX4_where_0 18 rfl rfl)
abbrev cX4_asksWagon : ByteArray := prog_19_method_17_code
def yX4_asksWagon : MethodName := ⟨RX4, "asksWagon", "(I)Z"⟩
def dkwX4_asksWagon_1 : List UInt8 := [4, 167, 0, 4, 3, 172]
abbrev dktX4_asksWagon_1 : List UInt8 := dkwX4_asksWagon_1 ++ []
def dkwX4_asksWagon_0 : List UInt8 := [42, 42, 27, 182, 0, 110, 153, 0, 7, 3, 167, 0, 4, 4, 181, 0, 80, 42, 180, 0, 80, 154, 0, 7]
abbrev dktX4_asksWagon_0 : List UInt8 := dkwX4_asksWagon_0 ++ dktX4_asksWagon_1
theorem dksX4_asksWagon_0 : cX4_asksWagon.data.toList.drop 0 = dktX4_asksWagon_0 := by decide +kernel
theorem dksX4_asksWagon_1 : cX4_asksWagon.data.toList.drop 24 = dktX4_asksWagon_1 := dk_seg dksX4_asksWagon_0 24 rfl rfl
theorem dX4_asksWagon_0 : decode cX4_asksWagon 0 = .ok (.aload_n 0, 1) := dk_42 (dk_at dksX4_asksWagon_0 0 rfl rfl)
theorem dX4_asksWagon_1 : decode cX4_asksWagon 1 = .ok (.aload_n 0, 1) := dk_42 (dk_at dksX4_asksWagon_0 1 rfl rfl)
theorem dX4_asksWagon_2 : decode cX4_asksWagon 2 = .ok (.iload_n 1, 1) := dk_27 (dk_at dksX4_asksWagon_0 2 rfl rfl)
theorem dX4_asksWagon_3 : decode cX4_asksWagon 3 = .ok (.invokevirtual 110, 3) := dk_182 0 110 (dk_at dksX4_asksWagon_0 3 rfl rfl)
theorem dX4_asksWagon_6 : decode cX4_asksWagon 6 = .ok (.ifCond .eq 7, 3) := dk_153 0 7 (dk_at dksX4_asksWagon_0 6 rfl rfl)
theorem dX4_asksWagon_9 : decode cX4_asksWagon 9 = .ok (.iconst 0, 1) := dk_3 (dk_at dksX4_asksWagon_0 9 rfl rfl)
theorem dX4_asksWagon_10 : decode cX4_asksWagon 10 = .ok (.goto 4, 3) := dk_167 0 4 (dk_at dksX4_asksWagon_0 10 rfl rfl)
theorem dX4_asksWagon_13 : decode cX4_asksWagon 13 = .ok (.iconst 1, 1) := dk_4 (dk_at dksX4_asksWagon_0 13 rfl rfl)
theorem dX4_asksWagon_14 : decode cX4_asksWagon 14 = .ok (.putfield 80, 3) := dk_181 0 80 (dk_at dksX4_asksWagon_0 14 rfl rfl)
theorem dX4_asksWagon_17 : decode cX4_asksWagon 17 = .ok (.aload_n 0, 1) := dk_42 (dk_at dksX4_asksWagon_0 17 rfl rfl)
theorem dX4_asksWagon_18 : decode cX4_asksWagon 18 = .ok (.getfield 80, 3) := dk_180 0 80 (dk_at dksX4_asksWagon_0 18 rfl rfl)
theorem dX4_asksWagon_21 : decode cX4_asksWagon 21 = .ok (.ifCond .ne 7, 3) := dk_154 0 7 (dk_at dksX4_asksWagon_0 21 rfl rfl)
theorem dX4_asksWagon_24 : decode cX4_asksWagon 24 = .ok (.iconst 1, 1) := dk_4 (dk_at dksX4_asksWagon_1 0 rfl rfl)
theorem dX4_asksWagon_25 : decode cX4_asksWagon 25 = .ok (.goto 4, 3) := dk_167 0 4 (dk_at dksX4_asksWagon_1 1 rfl rfl)
theorem dX4_asksWagon_28 : decode cX4_asksWagon 28 = .ok (.iconst 0, 1) := dk_3 (dk_at dksX4_asksWagon_1 4 rfl rfl)
theorem dX4_asksWagon_29 : decode cX4_asksWagon 29 = .ok (.ireturn, 1) := dk_172 (dk_at dksX4_asksWagon_1 5 rfl rfl)
abbrev cX4_isWagon : ByteArray := prog_19_method_7_code
def yX4_isWagon : MethodName := ⟨RX4, "isWagon", "(I)Z"⟩
def dkwX4_isWagon_0 : List UInt8 := [27, 3, 42, 180, 0, 92, 4, 100, 184, 0, 84, 172]
abbrev dktX4_isWagon_0 : List UInt8 := dkwX4_isWagon_0 ++ []
theorem dksX4_isWagon_0 : cX4_isWagon.data.toList.drop 0 = dktX4_isWagon_0 := by decide +kernel
theorem dX4_isWagon_0 : decode cX4_isWagon 0 = .ok (.iload_n 1, 1) := dk_27 (dk_at dksX4_isWagon_0 0 rfl rfl)
theorem dX4_isWagon_1 : decode cX4_isWagon 1 = .ok (.iconst 0, 1) := dk_3 (dk_at dksX4_isWagon_0 1 rfl rfl)
theorem dX4_isWagon_2 : decode cX4_isWagon 2 = .ok (.aload_n 0, 1) := dk_42 (dk_at dksX4_isWagon_0 2 rfl rfl)
theorem dX4_isWagon_3 : decode cX4_isWagon 3 = .ok (.getfield 92, 3) := dk_180 0 92 (dk_at dksX4_isWagon_0 3 rfl rfl)
theorem dX4_isWagon_6 : decode cX4_isWagon 6 = .ok (.iconst 1, 1) := dk_4 (dk_at dksX4_isWagon_0 6 rfl rfl)
theorem dX4_isWagon_7 : decode cX4_isWagon 7 = .ok (.isub, 1) := dk_100 (dk_at dksX4_isWagon_0 7 rfl rfl)
theorem dX4_isWagon_8 : decode cX4_isWagon 8 = .ok (.invokestatic 84, 3) := dk_184 0 84 (dk_at dksX4_isWagon_0 8 rfl rfl)
theorem dX4_isWagon_11 : decode cX4_isWagon 11 = .ok (.ireturn, 1) := dk_172 (dk_at dksX4_isWagon_0 11 rfl rfl)
abbrev cX4_carried : ByteArray := prog_19_method_19_code
def yX4_carried : MethodName := ⟨RX4, "carried", "(I)I"⟩
def dkwX4_carried_0 : List UInt8 := [42, 27, 182, 0, 113, 153, 0, 12, 42, 180, 0, 13, 27, 46, 167, 0, 4, 3, 172]
abbrev dktX4_carried_0 : List UInt8 := dkwX4_carried_0 ++ []
theorem dksX4_carried_0 : cX4_carried.data.toList.drop 0 = dktX4_carried_0 := by decide +kernel
theorem dX4_carried_0 : decode cX4_carried 0 = .ok (.aload_n 0, 1) := dk_42 (dk_at dksX4_carried_0 0 rfl rfl)
theorem dX4_carried_1 : decode cX4_carried 1 = .ok (.iload_n 1, 1) := dk_27 (dk_at dksX4_carried_0 1 rfl rfl)
theorem dX4_carried_2 : decode cX4_carried 2 = .ok (.invokevirtual 113, 3) := dk_182 0 113 (dk_at dksX4_carried_0 2 rfl rfl)
theorem dX4_carried_5 : decode cX4_carried 5 = .ok (.ifCond .eq 12, 3) := dk_153 0 12 (dk_at dksX4_carried_0 5 rfl rfl)
theorem dX4_carried_8 : decode cX4_carried 8 = .ok (.aload_n 0, 1) := dk_42 (dk_at dksX4_carried_0 8 rfl rfl)
theorem dX4_carried_9 : decode cX4_carried 9 = .ok (.getfield 13, 3) := dk_180 0 13 (dk_at dksX4_carried_0 9 rfl rfl)
theorem dX4_carried_12 : decode cX4_carried 12 = .ok (.iload_n 1, 1) := dk_27 (dk_at dksX4_carried_0 12 rfl rfl)
theorem dX4_carried_13 : decode cX4_carried 13 = .ok (.iaload, 1) := dk_46 (dk_at dksX4_carried_0 13 rfl rfl)
theorem dX4_carried_14 : decode cX4_carried 14 = .ok (.goto 4, 3) := dk_167 0 4 (dk_at dksX4_carried_0 14 rfl rfl)
theorem dX4_carried_17 : decode cX4_carried 17 = .ok (.iconst 0, 1) := dk_3 (dk_at dksX4_carried_0 17 rfl rfl)
theorem dX4_carried_18 : decode cX4_carried 18 = .ok (.ireturn, 1) := dk_172 (dk_at dksX4_carried_0 18 rfl rfl)
abbrev cX4_promised : ByteArray := prog_19_method_21_code
def yX4_promised : MethodName := ⟨RX4, "promised", "(I)I"⟩
def dkwX4_promised_1 : List UInt8 := [27, 46, 167, 0, 4, 2, 172]
abbrev dktX4_promised_1 : List UInt8 := dkwX4_promised_1 ++ []
def dkwX4_promised_0 : List UInt8 := [42, 27, 182, 0, 113, 154, 0, 7, 3, 167, 0, 21, 42, 27, 182, 0, 116, 153, 0, 12, 42, 180, 0, 16]
abbrev dktX4_promised_0 : List UInt8 := dkwX4_promised_0 ++ dktX4_promised_1
theorem dksX4_promised_0 : cX4_promised.data.toList.drop 0 = dktX4_promised_0 := by decide +kernel
theorem dksX4_promised_1 : cX4_promised.data.toList.drop 24 = dktX4_promised_1 := dk_seg dksX4_promised_0 24 rfl rfl
theorem dX4_promised_0 : decode cX4_promised 0 = .ok (.aload_n 0, 1) := dk_42 (dk_at dksX4_promised_0 0 rfl rfl)
theorem dX4_promised_1 : decode cX4_promised 1 = .ok (.iload_n 1, 1) := dk_27 (dk_at dksX4_promised_0 1 rfl rfl)
theorem dX4_promised_2 : decode cX4_promised 2 = .ok (.invokevirtual 113, 3) := dk_182 0 113 (dk_at dksX4_promised_0 2 rfl rfl)
theorem dX4_promised_5 : decode cX4_promised 5 = .ok (.ifCond .ne 7, 3) := dk_154 0 7 (dk_at dksX4_promised_0 5 rfl rfl)
theorem dX4_promised_8 : decode cX4_promised 8 = .ok (.iconst 0, 1) := dk_3 (dk_at dksX4_promised_0 8 rfl rfl)
theorem dX4_promised_9 : decode cX4_promised 9 = .ok (.goto 21, 3) := dk_167 0 21 (dk_at dksX4_promised_0 9 rfl rfl)
theorem dX4_promised_12 : decode cX4_promised 12 = .ok (.aload_n 0, 1) := dk_42 (dk_at dksX4_promised_0 12 rfl rfl)
theorem dX4_promised_13 : decode cX4_promised 13 = .ok (.iload_n 1, 1) := dk_27 (dk_at dksX4_promised_0 13 rfl rfl)
theorem dX4_promised_14 : decode cX4_promised 14 = .ok (.invokevirtual 116, 3) := dk_182 0 116 (dk_at dksX4_promised_0 14 rfl rfl)
theorem dX4_promised_17 : decode cX4_promised 17 = .ok (.ifCond .eq 12, 3) := dk_153 0 12 (dk_at dksX4_promised_0 17 rfl rfl)
theorem dX4_promised_20 : decode cX4_promised 20 = .ok (.aload_n 0, 1) := dk_42 (dk_at dksX4_promised_0 20 rfl rfl)
theorem dX4_promised_21 : decode cX4_promised 21 = .ok (.getfield 16, 3) := dk_180 0 16 (dk_at dksX4_promised_0 21 rfl rfl)
theorem dX4_promised_24 : decode cX4_promised 24 = .ok (.iload_n 1, 1) := dk_27 (dk_at dksX4_promised_1 0 rfl rfl)
theorem dX4_promised_25 : decode cX4_promised 25 = .ok (.iaload, 1) := dk_46 (dk_at dksX4_promised_1 1 rfl rfl)
theorem dX4_promised_26 : decode cX4_promised 26 = .ok (.goto 4, 3) := dk_167 0 4 (dk_at dksX4_promised_1 2 rfl rfl)
theorem dX4_promised_29 : decode cX4_promised 29 = .ok (.iconst (-1), 1) := dk_2 (dk_at dksX4_promised_1 5 rfl rfl)
theorem dX4_promised_30 : decode cX4_promised 30 = .ok (.ireturn, 1) := dk_172 (dk_at dksX4_promised_1 6 rfl rfl)
abbrev cX4_isPromised : ByteArray := prog_19_method_20_code
def yX4_isPromised : MethodName := ⟨RX4, "isPromised", "(I)Z"⟩
def dkwX4_isPromised_1 : List UInt8 := [162, 0, 7, 4, 167, 0, 4, 3, 172]
abbrev dktX4_isPromised_1 : List UInt8 := dkwX4_isPromised_1 ++ []
def dkwX4_isPromised_0 : List UInt8 := [42, 180, 0, 16, 27, 46, 2, 159, 0, 22, 42, 180, 0, 47, 42, 180, 0, 16, 27, 46, 46, 7]
abbrev dktX4_isPromised_0 : List UInt8 := dkwX4_isPromised_0 ++ dktX4_isPromised_1
theorem dksX4_isPromised_0 : cX4_isPromised.data.toList.drop 0 = dktX4_isPromised_0 := by decide +kernel
theorem dksX4_isPromised_1 : cX4_isPromised.data.toList.drop 22 = dktX4_isPromised_1 := dk_seg dksX4_isPromised_0 22 rfl rfl
theorem dX4_isPromised_0 : decode cX4_isPromised 0 = .ok (.aload_n 0, 1) := dk_42 (dk_at dksX4_isPromised_0 0 rfl rfl)
theorem dX4_isPromised_1 : decode cX4_isPromised 1 = .ok (.getfield 16, 3) := dk_180 0 16 (dk_at dksX4_isPromised_0 1 rfl rfl)
theorem dX4_isPromised_4 : decode cX4_isPromised 4 = .ok (.iload_n 1, 1) := dk_27 (dk_at dksX4_isPromised_0 4 rfl rfl)
theorem dX4_isPromised_5 : decode cX4_isPromised 5 = .ok (.iaload, 1) := dk_46 (dk_at dksX4_isPromised_0 5 rfl rfl)
theorem dX4_isPromised_6 : decode cX4_isPromised 6 = .ok (.iconst (-1), 1) := dk_2 (dk_at dksX4_isPromised_0 6 rfl rfl)
theorem dX4_isPromised_7 : decode cX4_isPromised 7 = .ok (.if_icmp .eq 22, 3) := dk_159 0 22 (dk_at dksX4_isPromised_0 7 rfl rfl)
theorem dX4_isPromised_10 : decode cX4_isPromised 10 = .ok (.aload_n 0, 1) := dk_42 (dk_at dksX4_isPromised_0 10 rfl rfl)
theorem dX4_isPromised_11 : decode cX4_isPromised 11 = .ok (.getfield 47, 3) := dk_180 0 47 (dk_at dksX4_isPromised_0 11 rfl rfl)
theorem dX4_isPromised_14 : decode cX4_isPromised 14 = .ok (.aload_n 0, 1) := dk_42 (dk_at dksX4_isPromised_0 14 rfl rfl)
theorem dX4_isPromised_15 : decode cX4_isPromised 15 = .ok (.getfield 16, 3) := dk_180 0 16 (dk_at dksX4_isPromised_0 15 rfl rfl)
theorem dX4_isPromised_18 : decode cX4_isPromised 18 = .ok (.iload_n 1, 1) := dk_27 (dk_at dksX4_isPromised_0 18 rfl rfl)
theorem dX4_isPromised_19 : decode cX4_isPromised 19 = .ok (.iaload, 1) := dk_46 (dk_at dksX4_isPromised_0 19 rfl rfl)
theorem dX4_isPromised_20 : decode cX4_isPromised 20 = .ok (.iaload, 1) := dk_46 (dk_at dksX4_isPromised_0 20 rfl rfl)
theorem dX4_isPromised_21 : decode cX4_isPromised 21 = .ok (.iconst 4, 1) := dk_7 (dk_at dksX4_isPromised_0 21 rfl rfl)
theorem dX4_isPromised_22 : decode cX4_isPromised 22 = .ok (.if_icmp .ge 7, 3) := dk_162 0 7 (dk_at dksX4_isPromised_1 0 rfl rfl)
theorem dX4_isPromised_25 : decode cX4_isPromised 25 = .ok (.iconst 1, 1) := dk_4 (dk_at dksX4_isPromised_1 3 rfl rfl)
theorem dX4_isPromised_26 : decode cX4_isPromised 26 = .ok (.goto 4, 3) := dk_167 0 4 (dk_at dksX4_isPromised_1 4 rfl rfl)
theorem dX4_isPromised_29 : decode cX4_isPromised 29 = .ok (.iconst 0, 1) := dk_3 (dk_at dksX4_isPromised_1 7 rfl rfl)
theorem dX4_isPromised_30 : decode cX4_isPromised 30 = .ok (.ireturn, 1) := dk_172 (dk_at dksX4_isPromised_1 8 rfl rfl)
abbrev cX4_call : ByteArray := prog_19_method_29_code
def yX4_call : MethodName := ⟨RX4, "call", "(II)I"⟩
def dkwX4_call_6 : List UInt8 := [181, 0, 119, 42, 180, 0, 119, 4, 100, 172]
abbrev dktX4_call_6 : List UInt8 := dkwX4_call_6 ++ []
def dkwX4_call_5 : List UInt8 := [180, 0, 119, 4, 84, 42, 180, 0, 44, 42, 180, 0, 119, 2, 79, 42, 89, 180, 0, 119, 4, 96]
abbrev dktX4_call_5 : List UInt8 := dkwX4_call_5 ++ dktX4_call_6
def dkwX4_call_4 : List UInt8 := [180, 0, 34, 42, 180, 0, 119, 27, 79, 42, 180, 0, 37, 42, 180, 0, 119, 28, 79, 42, 180, 0, 40, 42]
abbrev dktX4_call_4 : List UInt8 := dkwX4_call_4 ++ dktX4_call_5
def dkwX4_call_3 : List UInt8 := [27, 6, 112, 28, 182, 0, 139, 154, 0, 15, 42, 89, 180, 0, 142, 4, 96, 181, 0, 142, 2, 172, 42]
abbrev dktX4_call_3 : List UInt8 := dkwX4_call_3 ++ dktX4_call_4
def dkwX4_call_2 : List UInt8 := [42, 180, 0, 80, 158, 0, 5, 3, 172, 42, 28, 182, 0, 136, 42, 180, 0, 31, 28, 46, 162, 0, 14, 42]
abbrev dktX4_call_2 : List UInt8 := dkwX4_call_2 ++ dktX4_call_3
def dkwX4_call_1 : List UInt8 := [182, 0, 132, 2, 160, 0, 12, 42, 180, 0, 119, 16, 60, 160, 0, 7, 5, 167, 0, 4, 3, 181, 0, 80]
abbrev dktX4_call_1 : List UInt8 := dkwX4_call_1 ++ dktX4_call_2
def dkwX4_call_0 : List UInt8 := [42, 27, 3, 8, 184, 0, 84, 153, 0, 10, 28, 184, 0, 88, 154, 0, 7, 4, 167, 0, 26, 42, 27]
abbrev dktX4_call_0 : List UInt8 := dkwX4_call_0 ++ dktX4_call_1
theorem dksX4_call_0 : cX4_call.data.toList.drop 0 = dktX4_call_0 := by decide +kernel
theorem dksX4_call_1 : cX4_call.data.toList.drop 23 = dktX4_call_1 := dk_seg dksX4_call_0 23 rfl rfl
theorem dksX4_call_2 : cX4_call.data.toList.drop 47 = dktX4_call_2 := dk_seg dksX4_call_1 24 rfl rfl
theorem dksX4_call_3 : cX4_call.data.toList.drop 71 = dktX4_call_3 := dk_seg dksX4_call_2 24 rfl rfl
theorem dksX4_call_4 : cX4_call.data.toList.drop 94 = dktX4_call_4 := dk_seg dksX4_call_3 23 rfl rfl
theorem dksX4_call_5 : cX4_call.data.toList.drop 118 = dktX4_call_5 := dk_seg dksX4_call_4 24 rfl rfl
theorem dksX4_call_6 : cX4_call.data.toList.drop 140 = dktX4_call_6 := dk_seg dksX4_call_5 22 rfl rfl
theorem dX4_call_0 : decode cX4_call 0 = .ok (.aload_n 0, 1) := dk_42 (dk_at dksX4_call_0 0 rfl rfl)
theorem dX4_call_1 : decode cX4_call 1 = .ok (.iload_n 1, 1) := dk_27 (dk_at dksX4_call_0 1 rfl rfl)
theorem dX4_call_2 : decode cX4_call 2 = .ok (.iconst 0, 1) := dk_3 (dk_at dksX4_call_0 2 rfl rfl)
theorem dX4_call_3 : decode cX4_call 3 = .ok (.iconst 5, 1) := dk_8 (dk_at dksX4_call_0 3 rfl rfl)
theorem dX4_call_4 : decode cX4_call 4 = .ok (.invokestatic 84, 3) := dk_184 0 84 (dk_at dksX4_call_0 4 rfl rfl)
theorem dX4_call_7 : decode cX4_call 7 = .ok (.ifCond .eq 10, 3) := dk_153 0 10 (dk_at dksX4_call_0 7 rfl rfl)
theorem dX4_call_10 : decode cX4_call 10 = .ok (.iload_n 2, 1) := dk_28 (dk_at dksX4_call_0 10 rfl rfl)
theorem dX4_call_11 : decode cX4_call 11 = .ok (.invokestatic 88, 3) := dk_184 0 88 (dk_at dksX4_call_0 11 rfl rfl)
theorem dX4_call_14 : decode cX4_call 14 = .ok (.ifCond .ne 7, 3) := dk_154 0 7 (dk_at dksX4_call_0 14 rfl rfl)
theorem dX4_call_17 : decode cX4_call 17 = .ok (.iconst 1, 1) := dk_4 (dk_at dksX4_call_0 17 rfl rfl)
theorem dX4_call_18 : decode cX4_call 18 = .ok (.goto 26, 3) := dk_167 0 26 (dk_at dksX4_call_0 18 rfl rfl)
theorem dX4_call_21 : decode cX4_call 21 = .ok (.aload_n 0, 1) := dk_42 (dk_at dksX4_call_0 21 rfl rfl)
theorem dX4_call_22 : decode cX4_call 22 = .ok (.iload_n 1, 1) := dk_27 (dk_at dksX4_call_0 22 rfl rfl)
theorem dX4_call_23 : decode cX4_call 23 = .ok (.invokevirtual 132, 3) := dk_182 0 132 (dk_at dksX4_call_1 0 rfl rfl)
theorem dX4_call_26 : decode cX4_call 26 = .ok (.iconst (-1), 1) := dk_2 (dk_at dksX4_call_1 3 rfl rfl)
theorem dX4_call_27 : decode cX4_call 27 = .ok (.if_icmp .ne 12, 3) := dk_160 0 12 (dk_at dksX4_call_1 4 rfl rfl)
theorem dX4_call_30 : decode cX4_call 30 = .ok (.aload_n 0, 1) := dk_42 (dk_at dksX4_call_1 7 rfl rfl)
theorem dX4_call_31 : decode cX4_call 31 = .ok (.getfield 119, 3) := dk_180 0 119 (dk_at dksX4_call_1 8 rfl rfl)
theorem dX4_call_34 : decode cX4_call 34 = .ok (.bipush 60, 2) := dk_16 60 (dk_at dksX4_call_1 11 rfl rfl)
theorem dX4_call_36 : decode cX4_call 36 = .ok (.if_icmp .ne 7, 3) := dk_160 0 7 (dk_at dksX4_call_1 13 rfl rfl)
theorem dX4_call_39 : decode cX4_call 39 = .ok (.iconst 2, 1) := dk_5 (dk_at dksX4_call_1 16 rfl rfl)
theorem dX4_call_40 : decode cX4_call 40 = .ok (.goto 4, 3) := dk_167 0 4 (dk_at dksX4_call_1 17 rfl rfl)
theorem dX4_call_43 : decode cX4_call 43 = .ok (.iconst 0, 1) := dk_3 (dk_at dksX4_call_1 20 rfl rfl)
theorem dX4_call_44 : decode cX4_call 44 = .ok (.putfield 80, 3) := dk_181 0 80 (dk_at dksX4_call_1 21 rfl rfl)
theorem dX4_call_47 : decode cX4_call 47 = .ok (.aload_n 0, 1) := dk_42 (dk_at dksX4_call_2 0 rfl rfl)
theorem dX4_call_48 : decode cX4_call 48 = .ok (.getfield 80, 3) := dk_180 0 80 (dk_at dksX4_call_2 1 rfl rfl)
theorem dX4_call_51 : decode cX4_call 51 = .ok (.ifCond .le 5, 3) := dk_158 0 5 (dk_at dksX4_call_2 4 rfl rfl)
theorem dX4_call_54 : decode cX4_call 54 = .ok (.iconst 0, 1) := dk_3 (dk_at dksX4_call_2 7 rfl rfl)
theorem dX4_call_55 : decode cX4_call 55 = .ok (.ireturn, 1) := dk_172 (dk_at dksX4_call_2 8 rfl rfl)
theorem dX4_call_56 : decode cX4_call 56 = .ok (.aload_n 0, 1) := dk_42 (dk_at dksX4_call_2 9 rfl rfl)
theorem dX4_call_57 : decode cX4_call 57 = .ok (.iload_n 2, 1) := dk_28 (dk_at dksX4_call_2 10 rfl rfl)
theorem dX4_call_58 : decode cX4_call 58 = .ok (.invokevirtual 136, 3) := dk_182 0 136 (dk_at dksX4_call_2 11 rfl rfl)
theorem dX4_call_61 : decode cX4_call 61 = .ok (.aload_n 0, 1) := dk_42 (dk_at dksX4_call_2 14 rfl rfl)
theorem dX4_call_62 : decode cX4_call 62 = .ok (.getfield 31, 3) := dk_180 0 31 (dk_at dksX4_call_2 15 rfl rfl)
theorem dX4_call_65 : decode cX4_call 65 = .ok (.iload_n 2, 1) := dk_28 (dk_at dksX4_call_2 18 rfl rfl)
theorem dX4_call_66 : decode cX4_call 66 = .ok (.iaload, 1) := dk_46 (dk_at dksX4_call_2 19 rfl rfl)
theorem dX4_call_67 : decode cX4_call 67 = .ok (.if_icmp .ge 14, 3) := dk_162 0 14 (dk_at dksX4_call_2 20 rfl rfl)
theorem dX4_call_70 : decode cX4_call 70 = .ok (.aload_n 0, 1) := dk_42 (dk_at dksX4_call_2 23 rfl rfl)
theorem dX4_call_71 : decode cX4_call 71 = .ok (.iload_n 1, 1) := dk_27 (dk_at dksX4_call_3 0 rfl rfl)
theorem dX4_call_72 : decode cX4_call 72 = .ok (.iconst 3, 1) := dk_6 (dk_at dksX4_call_3 1 rfl rfl)
theorem dX4_call_73 : decode cX4_call 73 = .ok (.irem, 1) := dk_112 (dk_at dksX4_call_3 2 rfl rfl)
theorem dX4_call_74 : decode cX4_call 74 = .ok (.iload_n 2, 1) := dk_28 (dk_at dksX4_call_3 3 rfl rfl)
theorem dX4_call_75 : decode cX4_call 75 = .ok (.invokevirtual 139, 3) := dk_182 0 139 (dk_at dksX4_call_3 4 rfl rfl)
theorem dX4_call_78 : decode cX4_call 78 = .ok (.ifCond .ne 15, 3) := dk_154 0 15 (dk_at dksX4_call_3 7 rfl rfl)
theorem dX4_call_81 : decode cX4_call 81 = .ok (.aload_n 0, 1) := dk_42 (dk_at dksX4_call_3 10 rfl rfl)
theorem dX4_call_82 : decode cX4_call 82 = .ok (.dup, 1) := dk_89 (dk_at dksX4_call_3 11 rfl rfl)
theorem dX4_call_83 : decode cX4_call 83 = .ok (.getfield 142, 3) := dk_180 0 142 (dk_at dksX4_call_3 12 rfl rfl)
theorem dX4_call_86 : decode cX4_call 86 = .ok (.iconst 1, 1) := dk_4 (dk_at dksX4_call_3 15 rfl rfl)
theorem dX4_call_87 : decode cX4_call 87 = .ok (.iadd, 1) := dk_96 (dk_at dksX4_call_3 16 rfl rfl)
theorem dX4_call_88 : decode cX4_call 88 = .ok (.putfield 142, 3) := dk_181 0 142 (dk_at dksX4_call_3 17 rfl rfl)
theorem dX4_call_91 : decode cX4_call 91 = .ok (.iconst (-1), 1) := dk_2 (dk_at dksX4_call_3 20 rfl rfl)
theorem dX4_call_92 : decode cX4_call 92 = .ok (.ireturn, 1) := dk_172 (dk_at dksX4_call_3 21 rfl rfl)
theorem dX4_call_93 : decode cX4_call 93 = .ok (.aload_n 0, 1) := dk_42 (dk_at dksX4_call_3 22 rfl rfl)
theorem dX4_call_94 : decode cX4_call 94 = .ok (.getfield 34, 3) := dk_180 0 34 (dk_at dksX4_call_4 0 rfl rfl)
theorem dX4_call_97 : decode cX4_call 97 = .ok (.aload_n 0, 1) := dk_42 (dk_at dksX4_call_4 3 rfl rfl)
theorem dX4_call_98 : decode cX4_call 98 = .ok (.getfield 119, 3) := dk_180 0 119 (dk_at dksX4_call_4 4 rfl rfl)
theorem dX4_call_101 : decode cX4_call 101 = .ok (.iload_n 1, 1) := dk_27 (dk_at dksX4_call_4 7 rfl rfl)
theorem dX4_call_102 : decode cX4_call 102 = .ok (.iastore, 1) := dk_79 (dk_at dksX4_call_4 8 rfl rfl)
theorem dX4_call_103 : decode cX4_call 103 = .ok (.aload_n 0, 1) := dk_42 (dk_at dksX4_call_4 9 rfl rfl)
theorem dX4_call_104 : decode cX4_call 104 = .ok (.getfield 37, 3) := dk_180 0 37 (dk_at dksX4_call_4 10 rfl rfl)
theorem dX4_call_107 : decode cX4_call 107 = .ok (.aload_n 0, 1) := dk_42 (dk_at dksX4_call_4 13 rfl rfl)
theorem dX4_call_108 : decode cX4_call 108 = .ok (.getfield 119, 3) := dk_180 0 119 (dk_at dksX4_call_4 14 rfl rfl)
theorem dX4_call_111 : decode cX4_call 111 = .ok (.iload_n 2, 1) := dk_28 (dk_at dksX4_call_4 17 rfl rfl)
theorem dX4_call_112 : decode cX4_call 112 = .ok (.iastore, 1) := dk_79 (dk_at dksX4_call_4 18 rfl rfl)
theorem dX4_call_113 : decode cX4_call 113 = .ok (.aload_n 0, 1) := dk_42 (dk_at dksX4_call_4 19 rfl rfl)
theorem dX4_call_114 : decode cX4_call 114 = .ok (.getfield 40, 3) := dk_180 0 40 (dk_at dksX4_call_4 20 rfl rfl)
theorem dX4_call_117 : decode cX4_call 117 = .ok (.aload_n 0, 1) := dk_42 (dk_at dksX4_call_4 23 rfl rfl)
theorem dX4_call_118 : decode cX4_call 118 = .ok (.getfield 119, 3) := dk_180 0 119 (dk_at dksX4_call_5 0 rfl rfl)
theorem dX4_call_121 : decode cX4_call 121 = .ok (.iconst 1, 1) := dk_4 (dk_at dksX4_call_5 3 rfl rfl)
theorem dX4_call_122 : decode cX4_call 122 = .ok (.bastore, 1) := dk_84 (dk_at dksX4_call_5 4 rfl rfl)
theorem dX4_call_123 : decode cX4_call 123 = .ok (.aload_n 0, 1) := dk_42 (dk_at dksX4_call_5 5 rfl rfl)
theorem dX4_call_124 : decode cX4_call 124 = .ok (.getfield 44, 3) := dk_180 0 44 (dk_at dksX4_call_5 6 rfl rfl)
theorem dX4_call_127 : decode cX4_call 127 = .ok (.aload_n 0, 1) := dk_42 (dk_at dksX4_call_5 9 rfl rfl)
theorem dX4_call_128 : decode cX4_call 128 = .ok (.getfield 119, 3) := dk_180 0 119 (dk_at dksX4_call_5 10 rfl rfl)
theorem dX4_call_131 : decode cX4_call 131 = .ok (.iconst (-1), 1) := dk_2 (dk_at dksX4_call_5 13 rfl rfl)
theorem dX4_call_132 : decode cX4_call 132 = .ok (.iastore, 1) := dk_79 (dk_at dksX4_call_5 14 rfl rfl)
theorem dX4_call_133 : decode cX4_call 133 = .ok (.aload_n 0, 1) := dk_42 (dk_at dksX4_call_5 15 rfl rfl)
theorem dX4_call_134 : decode cX4_call 134 = .ok (.dup, 1) := dk_89 (dk_at dksX4_call_5 16 rfl rfl)
theorem dX4_call_135 : decode cX4_call 135 = .ok (.getfield 119, 3) := dk_180 0 119 (dk_at dksX4_call_5 17 rfl rfl)
theorem dX4_call_138 : decode cX4_call 138 = .ok (.iconst 1, 1) := dk_4 (dk_at dksX4_call_5 20 rfl rfl)
theorem dX4_call_139 : decode cX4_call 139 = .ok (.iadd, 1) := dk_96 (dk_at dksX4_call_5 21 rfl rfl)
theorem dX4_call_140 : decode cX4_call 140 = .ok (.putfield 119, 3) := dk_181 0 119 (dk_at dksX4_call_6 0 rfl rfl)
theorem dX4_call_143 : decode cX4_call 143 = .ok (.aload_n 0, 1) := dk_42 (dk_at dksX4_call_6 3 rfl rfl)
theorem dX4_call_144 : decode cX4_call 144 = .ok (.getfield 119, 3) := dk_180 0 119 (dk_at dksX4_call_6 4 rfl rfl)
theorem dX4_call_147 : decode cX4_call 147 = .ok (.iconst 1, 1) := dk_4 (dk_at dksX4_call_6 7 rfl rfl)
theorem dX4_call_148 : decode cX4_call 148 = .ok (.isub, 1) := dk_100 (dk_at dksX4_call_6 8 rfl rfl)
theorem dX4_call_149 : decode cX4_call 149 = .ok (.ireturn, 1) := dk_172 (dk_at dksX4_call_6 9 rfl rfl)
abbrev cX4_callNow : ByteArray := prog_19_method_24_code
def yX4_callNow : MethodName := ⟨RX4, "callNow", "(I)I"⟩
def dkwX4_callNow_1 : List UInt8 := [180, 0, 34, 29, 46, 27, 160, 0, 7, 29, 167, 0, 4, 28, 61, 132, 3, 1, 167, 255, 220, 28, 172]
abbrev dktX4_callNow_1 : List UInt8 := dkwX4_callNow_1 ++ []
def dkwX4_callNow_0 : List UInt8 := [2, 61, 3, 62, 29, 42, 180, 0, 119, 162, 0, 34, 42, 180, 0, 40, 29, 51, 153, 0, 17, 42]
abbrev dktX4_callNow_0 : List UInt8 := dkwX4_callNow_0 ++ dktX4_callNow_1
theorem dksX4_callNow_0 : cX4_callNow.data.toList.drop 0 = dktX4_callNow_0 := by decide +kernel
theorem dksX4_callNow_1 : cX4_callNow.data.toList.drop 22 = dktX4_callNow_1 := dk_seg dksX4_callNow_0 22 rfl rfl
theorem dX4_callNow_0 : decode cX4_callNow 0 = .ok (.iconst (-1), 1) := dk_2 (dk_at dksX4_callNow_0 0 rfl rfl)
theorem dX4_callNow_1 : decode cX4_callNow 1 = .ok (.istore_n 2, 1) := dk_61 (dk_at dksX4_callNow_0 1 rfl rfl)
theorem dX4_callNow_2 : decode cX4_callNow 2 = .ok (.iconst 0, 1) := dk_3 (dk_at dksX4_callNow_0 2 rfl rfl)
theorem dX4_callNow_3 : decode cX4_callNow 3 = .ok (.istore_n 3, 1) := dk_62 (dk_at dksX4_callNow_0 3 rfl rfl)
theorem dX4_callNow_4 : decode cX4_callNow 4 = .ok (.iload_n 3, 1) := dk_29 (dk_at dksX4_callNow_0 4 rfl rfl)
theorem dX4_callNow_5 : decode cX4_callNow 5 = .ok (.aload_n 0, 1) := dk_42 (dk_at dksX4_callNow_0 5 rfl rfl)
theorem dX4_callNow_6 : decode cX4_callNow 6 = .ok (.getfield 119, 3) := dk_180 0 119 (dk_at dksX4_callNow_0 6 rfl rfl)
theorem dX4_callNow_9 : decode cX4_callNow 9 = .ok (.if_icmp .ge 34, 3) := dk_162 0 34 (dk_at dksX4_callNow_0 9 rfl rfl)
theorem dX4_callNow_12 : decode cX4_callNow 12 = .ok (.aload_n 0, 1) := dk_42 (dk_at dksX4_callNow_0 12 rfl rfl)
theorem dX4_callNow_13 : decode cX4_callNow 13 = .ok (.getfield 40, 3) := dk_180 0 40 (dk_at dksX4_callNow_0 13 rfl rfl)
theorem dX4_callNow_16 : decode cX4_callNow 16 = .ok (.iload_n 3, 1) := dk_29 (dk_at dksX4_callNow_0 16 rfl rfl)
theorem dX4_callNow_17 : decode cX4_callNow 17 = .ok (.baload, 1) := dk_51 (dk_at dksX4_callNow_0 17 rfl rfl)
theorem dX4_callNow_18 : decode cX4_callNow 18 = .ok (.ifCond .eq 17, 3) := dk_153 0 17 (dk_at dksX4_callNow_0 18 rfl rfl)
theorem dX4_callNow_21 : decode cX4_callNow 21 = .ok (.aload_n 0, 1) := dk_42 (dk_at dksX4_callNow_0 21 rfl rfl)
theorem dX4_callNow_22 : decode cX4_callNow 22 = .ok (.getfield 34, 3) := dk_180 0 34 (dk_at dksX4_callNow_1 0 rfl rfl)
theorem dX4_callNow_25 : decode cX4_callNow 25 = .ok (.iload_n 3, 1) := dk_29 (dk_at dksX4_callNow_1 3 rfl rfl)
theorem dX4_callNow_26 : decode cX4_callNow 26 = .ok (.iaload, 1) := dk_46 (dk_at dksX4_callNow_1 4 rfl rfl)
theorem dX4_callNow_27 : decode cX4_callNow 27 = .ok (.iload_n 1, 1) := dk_27 (dk_at dksX4_callNow_1 5 rfl rfl)
theorem dX4_callNow_28 : decode cX4_callNow 28 = .ok (.if_icmp .ne 7, 3) := dk_160 0 7 (dk_at dksX4_callNow_1 6 rfl rfl)
theorem dX4_callNow_31 : decode cX4_callNow 31 = .ok (.iload_n 3, 1) := dk_29 (dk_at dksX4_callNow_1 9 rfl rfl)
theorem dX4_callNow_32 : decode cX4_callNow 32 = .ok (.goto 4, 3) := dk_167 0 4 (dk_at dksX4_callNow_1 10 rfl rfl)
theorem dX4_callNow_35 : decode cX4_callNow 35 = .ok (.iload_n 2, 1) := dk_28 (dk_at dksX4_callNow_1 13 rfl rfl)
theorem dX4_callNow_36 : decode cX4_callNow 36 = .ok (.istore_n 2, 1) := dk_61 (dk_at dksX4_callNow_1 14 rfl rfl)
theorem dX4_callNow_37 : decode cX4_callNow 37 = .ok (.iinc 3 1, 3) := dk_132 3 1 (dk_at dksX4_callNow_1 15 rfl rfl)
theorem dX4_callNow_40 : decode cX4_callNow 40 = .ok (.goto (-36), 3) := dk_167 255 220 (dk_at dksX4_callNow_1 18 rfl rfl)
theorem dX4_callNow_43 : decode cX4_callNow 43 = .ok (.iload_n 2, 1) := dk_28 (dk_at dksX4_callNow_1 21 rfl rfl)
theorem dX4_callNow_44 : decode cX4_callNow 44 = .ok (.ireturn, 1) := dk_172 (dk_at dksX4_callNow_1 22 rfl rfl)
abbrev cX4_callsTo : ByteArray := prog_19_method_25_code
def yX4_callsTo : MethodName := ⟨RX4, "callsTo", "(I)I"⟩
def dkwX4_callsTo_1 : List UInt8 := [180, 0, 37, 29, 46, 27, 160, 0, 7, 4, 167, 0, 4, 3, 96, 61, 132, 3, 1, 167, 255, 218, 28, 172]
abbrev dktX4_callsTo_1 : List UInt8 := dkwX4_callsTo_1 ++ []
def dkwX4_callsTo_0 : List UInt8 := [3, 61, 3, 62, 29, 42, 180, 0, 119, 162, 0, 36, 28, 42, 180, 0, 40, 29, 51, 153, 0, 17, 42]
abbrev dktX4_callsTo_0 : List UInt8 := dkwX4_callsTo_0 ++ dktX4_callsTo_1
theorem dksX4_callsTo_0 : cX4_callsTo.data.toList.drop 0 = dktX4_callsTo_0 := by decide +kernel
theorem dksX4_callsTo_1 : cX4_callsTo.data.toList.drop 23 = dktX4_callsTo_1 := dk_seg dksX4_callsTo_0 23 rfl rfl
theorem dX4_callsTo_0 : decode cX4_callsTo 0 = .ok (.iconst 0, 1) := dk_3 (dk_at dksX4_callsTo_0 0 rfl rfl)
theorem dX4_callsTo_1 : decode cX4_callsTo 1 = .ok (.istore_n 2, 1) := dk_61 (dk_at dksX4_callsTo_0 1 rfl rfl)
theorem dX4_callsTo_2 : decode cX4_callsTo 2 = .ok (.iconst 0, 1) := dk_3 (dk_at dksX4_callsTo_0 2 rfl rfl)
theorem dX4_callsTo_3 : decode cX4_callsTo 3 = .ok (.istore_n 3, 1) := dk_62 (dk_at dksX4_callsTo_0 3 rfl rfl)
theorem dX4_callsTo_4 : decode cX4_callsTo 4 = .ok (.iload_n 3, 1) := dk_29 (dk_at dksX4_callsTo_0 4 rfl rfl)
theorem dX4_callsTo_5 : decode cX4_callsTo 5 = .ok (.aload_n 0, 1) := dk_42 (dk_at dksX4_callsTo_0 5 rfl rfl)
theorem dX4_callsTo_6 : decode cX4_callsTo 6 = .ok (.getfield 119, 3) := dk_180 0 119 (dk_at dksX4_callsTo_0 6 rfl rfl)
theorem dX4_callsTo_9 : decode cX4_callsTo 9 = .ok (.if_icmp .ge 36, 3) := dk_162 0 36 (dk_at dksX4_callsTo_0 9 rfl rfl)
theorem dX4_callsTo_12 : decode cX4_callsTo 12 = .ok (.iload_n 2, 1) := dk_28 (dk_at dksX4_callsTo_0 12 rfl rfl)
theorem dX4_callsTo_13 : decode cX4_callsTo 13 = .ok (.aload_n 0, 1) := dk_42 (dk_at dksX4_callsTo_0 13 rfl rfl)
theorem dX4_callsTo_14 : decode cX4_callsTo 14 = .ok (.getfield 40, 3) := dk_180 0 40 (dk_at dksX4_callsTo_0 14 rfl rfl)
theorem dX4_callsTo_17 : decode cX4_callsTo 17 = .ok (.iload_n 3, 1) := dk_29 (dk_at dksX4_callsTo_0 17 rfl rfl)
theorem dX4_callsTo_18 : decode cX4_callsTo 18 = .ok (.baload, 1) := dk_51 (dk_at dksX4_callsTo_0 18 rfl rfl)
theorem dX4_callsTo_19 : decode cX4_callsTo 19 = .ok (.ifCond .eq 17, 3) := dk_153 0 17 (dk_at dksX4_callsTo_0 19 rfl rfl)
theorem dX4_callsTo_22 : decode cX4_callsTo 22 = .ok (.aload_n 0, 1) := dk_42 (dk_at dksX4_callsTo_0 22 rfl rfl)
theorem dX4_callsTo_23 : decode cX4_callsTo 23 = .ok (.getfield 37, 3) := dk_180 0 37 (dk_at dksX4_callsTo_1 0 rfl rfl)
theorem dX4_callsTo_26 : decode cX4_callsTo 26 = .ok (.iload_n 3, 1) := dk_29 (dk_at dksX4_callsTo_1 3 rfl rfl)
theorem dX4_callsTo_27 : decode cX4_callsTo 27 = .ok (.iaload, 1) := dk_46 (dk_at dksX4_callsTo_1 4 rfl rfl)
theorem dX4_callsTo_28 : decode cX4_callsTo 28 = .ok (.iload_n 1, 1) := dk_27 (dk_at dksX4_callsTo_1 5 rfl rfl)
theorem dX4_callsTo_29 : decode cX4_callsTo 29 = .ok (.if_icmp .ne 7, 3) := dk_160 0 7 (dk_at dksX4_callsTo_1 6 rfl rfl)
theorem dX4_callsTo_32 : decode cX4_callsTo 32 = .ok (.iconst 1, 1) := dk_4 (dk_at dksX4_callsTo_1 9 rfl rfl)
theorem dX4_callsTo_33 : decode cX4_callsTo 33 = .ok (.goto 4, 3) := dk_167 0 4 (dk_at dksX4_callsTo_1 10 rfl rfl)
theorem dX4_callsTo_36 : decode cX4_callsTo 36 = .ok (.iconst 0, 1) := dk_3 (dk_at dksX4_callsTo_1 13 rfl rfl)
theorem dX4_callsTo_37 : decode cX4_callsTo 37 = .ok (.iadd, 1) := dk_96 (dk_at dksX4_callsTo_1 14 rfl rfl)
theorem dX4_callsTo_38 : decode cX4_callsTo 38 = .ok (.istore_n 2, 1) := dk_61 (dk_at dksX4_callsTo_1 15 rfl rfl)
theorem dX4_callsTo_39 : decode cX4_callsTo 39 = .ok (.iinc 3 1, 3) := dk_132 3 1 (dk_at dksX4_callsTo_1 16 rfl rfl)
theorem dX4_callsTo_42 : decode cX4_callsTo 42 = .ok (.goto (-38), 3) := dk_167 255 218 (dk_at dksX4_callsTo_1 19 rfl rfl)
theorem dX4_callsTo_45 : decode cX4_callsTo 45 = .ok (.iload_n 2, 1) := dk_28 (dk_at dksX4_callsTo_1 22 rfl rfl)
theorem dX4_callsTo_46 : decode cX4_callsTo 46 = .ok (.ireturn, 1) := dk_172 (dk_at dksX4_callsTo_1 23 rfl rfl)
abbrev cX4_takesWay : ByteArray := prog_19_method_28_code
def yX4_takesWay : MethodName := ⟨RX4, "takesWay", "(II)Z"⟩
def dkwX4_takesWay_4 : List UInt8 := [172]
abbrev dktX4_takesWay_4 : List UInt8 := dkwX4_takesWay_4 ++ []
def dkwX4_takesWay_3 : List UInt8 := [172, 42, 180, 0, 28, 21, 5, 42, 180, 0, 119, 79, 42, 180, 0, 28, 21, 6, 42, 180, 0, 119, 79, 4]
abbrev dktX4_takesWay_3 : List UInt8 := dkwX4_takesWay_3 ++ dktX4_takesWay_4
def dkwX4_takesWay_2 : List UInt8 := [180, 0, 28, 29, 42, 180, 0, 119, 79, 4, 172, 21, 5, 2, 159, 0, 9, 21, 6, 2, 160, 0, 5, 3]
abbrev dktX4_takesWay_2 : List UInt8 := dkwX4_takesWay_2 ++ dktX4_takesWay_3
def dkwX4_takesWay_1 : List UInt8 := [21, 4, 182, 0, 129, 54, 5, 42, 21, 4, 28, 182, 0, 129, 54, 6, 29, 2, 159, 0, 15, 42]
abbrev dktX4_takesWay_1 : List UInt8 := dkwX4_takesWay_1 ++ dktX4_takesWay_2
def dkwX4_takesWay_0 : List UInt8 := [27, 28, 160, 0, 5, 4, 172, 42, 27, 28, 182, 0, 129, 62, 6, 27, 100, 28, 100, 54, 4, 42, 27]
abbrev dktX4_takesWay_0 : List UInt8 := dkwX4_takesWay_0 ++ dktX4_takesWay_1
theorem dksX4_takesWay_0 : cX4_takesWay.data.toList.drop 0 = dktX4_takesWay_0 := by decide +kernel
theorem dksX4_takesWay_1 : cX4_takesWay.data.toList.drop 23 = dktX4_takesWay_1 := dk_seg dksX4_takesWay_0 23 rfl rfl
theorem dksX4_takesWay_2 : cX4_takesWay.data.toList.drop 45 = dktX4_takesWay_2 := dk_seg dksX4_takesWay_1 22 rfl rfl
theorem dksX4_takesWay_3 : cX4_takesWay.data.toList.drop 69 = dktX4_takesWay_3 := dk_seg dksX4_takesWay_2 24 rfl rfl
theorem dksX4_takesWay_4 : cX4_takesWay.data.toList.drop 93 = dktX4_takesWay_4 := dk_seg dksX4_takesWay_3 24 rfl rfl
theorem dX4_takesWay_0 : decode cX4_takesWay 0 = .ok (.iload_n 1, 1) := dk_27 (dk_at dksX4_takesWay_0 0 rfl rfl)
theorem dX4_takesWay_1 : decode cX4_takesWay 1 = .ok (.iload_n 2, 1) := dk_28 (dk_at dksX4_takesWay_0 1 rfl rfl)
theorem dX4_takesWay_2 : decode cX4_takesWay 2 = .ok (.if_icmp .ne 5, 3) := dk_160 0 5 (dk_at dksX4_takesWay_0 2 rfl rfl)
theorem dX4_takesWay_5 : decode cX4_takesWay 5 = .ok (.iconst 1, 1) := dk_4 (dk_at dksX4_takesWay_0 5 rfl rfl)
theorem dX4_takesWay_6 : decode cX4_takesWay 6 = .ok (.ireturn, 1) := dk_172 (dk_at dksX4_takesWay_0 6 rfl rfl)
theorem dX4_takesWay_7 : decode cX4_takesWay 7 = .ok (.aload_n 0, 1) := dk_42 (dk_at dksX4_takesWay_0 7 rfl rfl)
theorem dX4_takesWay_8 : decode cX4_takesWay 8 = .ok (.iload_n 1, 1) := dk_27 (dk_at dksX4_takesWay_0 8 rfl rfl)
theorem dX4_takesWay_9 : decode cX4_takesWay 9 = .ok (.iload_n 2, 1) := dk_28 (dk_at dksX4_takesWay_0 9 rfl rfl)
theorem dX4_takesWay_10 : decode cX4_takesWay 10 = .ok (.invokevirtual 129, 3) := dk_182 0 129 (dk_at dksX4_takesWay_0 10 rfl rfl)
theorem dX4_takesWay_13 : decode cX4_takesWay 13 = .ok (.istore_n 3, 1) := dk_62 (dk_at dksX4_takesWay_0 13 rfl rfl)
theorem dX4_takesWay_14 : decode cX4_takesWay 14 = .ok (.iconst 3, 1) := dk_6 (dk_at dksX4_takesWay_0 14 rfl rfl)
theorem dX4_takesWay_15 : decode cX4_takesWay 15 = .ok (.iload_n 1, 1) := dk_27 (dk_at dksX4_takesWay_0 15 rfl rfl)
theorem dX4_takesWay_16 : decode cX4_takesWay 16 = .ok (.isub, 1) := dk_100 (dk_at dksX4_takesWay_0 16 rfl rfl)
theorem dX4_takesWay_17 : decode cX4_takesWay 17 = .ok (.iload_n 2, 1) := dk_28 (dk_at dksX4_takesWay_0 17 rfl rfl)
theorem dX4_takesWay_18 : decode cX4_takesWay 18 = .ok (.isub, 1) := dk_100 (dk_at dksX4_takesWay_0 18 rfl rfl)
theorem dX4_takesWay_19 : decode cX4_takesWay 19 = .ok (.istore 4, 2) := dk_54 4 (dk_at dksX4_takesWay_0 19 rfl rfl)
theorem dX4_takesWay_21 : decode cX4_takesWay 21 = .ok (.aload_n 0, 1) := dk_42 (dk_at dksX4_takesWay_0 21 rfl rfl)
theorem dX4_takesWay_22 : decode cX4_takesWay 22 = .ok (.iload_n 1, 1) := dk_27 (dk_at dksX4_takesWay_0 22 rfl rfl)
theorem dX4_takesWay_23 : decode cX4_takesWay 23 = .ok (.iload 4, 2) := dk_21 4 (dk_at dksX4_takesWay_1 0 rfl rfl)
theorem dX4_takesWay_25 : decode cX4_takesWay 25 = .ok (.invokevirtual 129, 3) := dk_182 0 129 (dk_at dksX4_takesWay_1 2 rfl rfl)
theorem dX4_takesWay_28 : decode cX4_takesWay 28 = .ok (.istore 5, 2) := dk_54 5 (dk_at dksX4_takesWay_1 5 rfl rfl)
theorem dX4_takesWay_30 : decode cX4_takesWay 30 = .ok (.aload_n 0, 1) := dk_42 (dk_at dksX4_takesWay_1 7 rfl rfl)
theorem dX4_takesWay_31 : decode cX4_takesWay 31 = .ok (.iload 4, 2) := dk_21 4 (dk_at dksX4_takesWay_1 8 rfl rfl)
theorem dX4_takesWay_33 : decode cX4_takesWay 33 = .ok (.iload_n 2, 1) := dk_28 (dk_at dksX4_takesWay_1 10 rfl rfl)
theorem dX4_takesWay_34 : decode cX4_takesWay 34 = .ok (.invokevirtual 129, 3) := dk_182 0 129 (dk_at dksX4_takesWay_1 11 rfl rfl)
theorem dX4_takesWay_37 : decode cX4_takesWay 37 = .ok (.istore 6, 2) := dk_54 6 (dk_at dksX4_takesWay_1 14 rfl rfl)
theorem dX4_takesWay_39 : decode cX4_takesWay 39 = .ok (.iload_n 3, 1) := dk_29 (dk_at dksX4_takesWay_1 16 rfl rfl)
theorem dX4_takesWay_40 : decode cX4_takesWay 40 = .ok (.iconst (-1), 1) := dk_2 (dk_at dksX4_takesWay_1 17 rfl rfl)
theorem dX4_takesWay_41 : decode cX4_takesWay 41 = .ok (.if_icmp .eq 15, 3) := dk_159 0 15 (dk_at dksX4_takesWay_1 18 rfl rfl)
theorem dX4_takesWay_44 : decode cX4_takesWay 44 = .ok (.aload_n 0, 1) := dk_42 (dk_at dksX4_takesWay_1 21 rfl rfl)
theorem dX4_takesWay_45 : decode cX4_takesWay 45 = .ok (.getfield 28, 3) := dk_180 0 28 (dk_at dksX4_takesWay_2 0 rfl rfl)
theorem dX4_takesWay_48 : decode cX4_takesWay 48 = .ok (.iload_n 3, 1) := dk_29 (dk_at dksX4_takesWay_2 3 rfl rfl)
theorem dX4_takesWay_49 : decode cX4_takesWay 49 = .ok (.aload_n 0, 1) := dk_42 (dk_at dksX4_takesWay_2 4 rfl rfl)
theorem dX4_takesWay_50 : decode cX4_takesWay 50 = .ok (.getfield 119, 3) := dk_180 0 119 (dk_at dksX4_takesWay_2 5 rfl rfl)
theorem dX4_takesWay_53 : decode cX4_takesWay 53 = .ok (.iastore, 1) := dk_79 (dk_at dksX4_takesWay_2 8 rfl rfl)
theorem dX4_takesWay_54 : decode cX4_takesWay 54 = .ok (.iconst 1, 1) := dk_4 (dk_at dksX4_takesWay_2 9 rfl rfl)
theorem dX4_takesWay_55 : decode cX4_takesWay 55 = .ok (.ireturn, 1) := dk_172 (dk_at dksX4_takesWay_2 10 rfl rfl)
theorem dX4_takesWay_56 : decode cX4_takesWay 56 = .ok (.iload 5, 2) := dk_21 5 (dk_at dksX4_takesWay_2 11 rfl rfl)
theorem dX4_takesWay_58 : decode cX4_takesWay 58 = .ok (.iconst (-1), 1) := dk_2 (dk_at dksX4_takesWay_2 13 rfl rfl)
theorem dX4_takesWay_59 : decode cX4_takesWay 59 = .ok (.if_icmp .eq 9, 3) := dk_159 0 9 (dk_at dksX4_takesWay_2 14 rfl rfl)
theorem dX4_takesWay_62 : decode cX4_takesWay 62 = .ok (.iload 6, 2) := dk_21 6 (dk_at dksX4_takesWay_2 17 rfl rfl)
theorem dX4_takesWay_64 : decode cX4_takesWay 64 = .ok (.iconst (-1), 1) := dk_2 (dk_at dksX4_takesWay_2 19 rfl rfl)
theorem dX4_takesWay_65 : decode cX4_takesWay 65 = .ok (.if_icmp .ne 5, 3) := dk_160 0 5 (dk_at dksX4_takesWay_2 20 rfl rfl)
theorem dX4_takesWay_68 : decode cX4_takesWay 68 = .ok (.iconst 0, 1) := dk_3 (dk_at dksX4_takesWay_2 23 rfl rfl)
theorem dX4_takesWay_69 : decode cX4_takesWay 69 = .ok (.ireturn, 1) := dk_172 (dk_at dksX4_takesWay_3 0 rfl rfl)
theorem dX4_takesWay_70 : decode cX4_takesWay 70 = .ok (.aload_n 0, 1) := dk_42 (dk_at dksX4_takesWay_3 1 rfl rfl)
theorem dX4_takesWay_71 : decode cX4_takesWay 71 = .ok (.getfield 28, 3) := dk_180 0 28 (dk_at dksX4_takesWay_3 2 rfl rfl)
theorem dX4_takesWay_74 : decode cX4_takesWay 74 = .ok (.iload 5, 2) := dk_21 5 (dk_at dksX4_takesWay_3 5 rfl rfl)
theorem dX4_takesWay_76 : decode cX4_takesWay 76 = .ok (.aload_n 0, 1) := dk_42 (dk_at dksX4_takesWay_3 7 rfl rfl)
theorem dX4_takesWay_77 : decode cX4_takesWay 77 = .ok (.getfield 119, 3) := dk_180 0 119 (dk_at dksX4_takesWay_3 8 rfl rfl)
theorem dX4_takesWay_80 : decode cX4_takesWay 80 = .ok (.iastore, 1) := dk_79 (dk_at dksX4_takesWay_3 11 rfl rfl)
theorem dX4_takesWay_81 : decode cX4_takesWay 81 = .ok (.aload_n 0, 1) := dk_42 (dk_at dksX4_takesWay_3 12 rfl rfl)
theorem dX4_takesWay_82 : decode cX4_takesWay 82 = .ok (.getfield 28, 3) := dk_180 0 28 (dk_at dksX4_takesWay_3 13 rfl rfl)
theorem dX4_takesWay_85 : decode cX4_takesWay 85 = .ok (.iload 6, 2) := dk_21 6 (dk_at dksX4_takesWay_3 16 rfl rfl)
theorem dX4_takesWay_87 : decode cX4_takesWay 87 = .ok (.aload_n 0, 1) := dk_42 (dk_at dksX4_takesWay_3 18 rfl rfl)
theorem dX4_takesWay_88 : decode cX4_takesWay 88 = .ok (.getfield 119, 3) := dk_180 0 119 (dk_at dksX4_takesWay_3 19 rfl rfl)
theorem dX4_takesWay_91 : decode cX4_takesWay 91 = .ok (.iastore, 1) := dk_79 (dk_at dksX4_takesWay_3 22 rfl rfl)
theorem dX4_takesWay_92 : decode cX4_takesWay 92 = .ok (.iconst 1, 1) := dk_4 (dk_at dksX4_takesWay_3 23 rfl rfl)
theorem dX4_takesWay_93 : decode cX4_takesWay 93 = .ok (.ireturn, 1) := dk_172 (dk_at dksX4_takesWay_4 0 rfl rfl)
abbrev cX4_freeBetween : ByteArray := prog_19_method_27_code
def yX4_freeBetween : MethodName := ⟨RX4, "freeBetween", "(II)I"⟩
def dkwX4_freeBetween_1 : List UInt8 := [29, 4, 96, 46, 2, 160, 0, 9, 29, 4, 96, 167, 0, 4, 2, 172]
abbrev dktX4_freeBetween_1 : List UInt8 := dkwX4_freeBetween_1 ++ []
def dkwX4_freeBetween_0 : List UInt8 := [27, 28, 184, 0, 125, 62, 42, 180, 0, 28, 29, 46, 2, 160, 0, 7, 29, 167, 0, 22, 42, 180, 0, 28]
abbrev dktX4_freeBetween_0 : List UInt8 := dkwX4_freeBetween_0 ++ dktX4_freeBetween_1
theorem dksX4_freeBetween_0 : cX4_freeBetween.data.toList.drop 0 = dktX4_freeBetween_0 := by decide +kernel
theorem dksX4_freeBetween_1 : cX4_freeBetween.data.toList.drop 24 = dktX4_freeBetween_1 := dk_seg dksX4_freeBetween_0 24 rfl rfl
theorem dX4_freeBetween_0 : decode cX4_freeBetween 0 = .ok (.iload_n 1, 1) := dk_27 (dk_at dksX4_freeBetween_0 0 rfl rfl)
theorem dX4_freeBetween_1 : decode cX4_freeBetween 1 = .ok (.iload_n 2, 1) := dk_28 (dk_at dksX4_freeBetween_0 1 rfl rfl)
theorem dX4_freeBetween_2 : decode cX4_freeBetween 2 = .ok (.invokestatic 125, 3) := dk_184 0 125 (dk_at dksX4_freeBetween_0 2 rfl rfl)
theorem dX4_freeBetween_5 : decode cX4_freeBetween 5 = .ok (.istore_n 3, 1) := dk_62 (dk_at dksX4_freeBetween_0 5 rfl rfl)
theorem dX4_freeBetween_6 : decode cX4_freeBetween 6 = .ok (.aload_n 0, 1) := dk_42 (dk_at dksX4_freeBetween_0 6 rfl rfl)
theorem dX4_freeBetween_7 : decode cX4_freeBetween 7 = .ok (.getfield 28, 3) := dk_180 0 28 (dk_at dksX4_freeBetween_0 7 rfl rfl)
theorem dX4_freeBetween_10 : decode cX4_freeBetween 10 = .ok (.iload_n 3, 1) := dk_29 (dk_at dksX4_freeBetween_0 10 rfl rfl)
theorem dX4_freeBetween_11 : decode cX4_freeBetween 11 = .ok (.iaload, 1) := dk_46 (dk_at dksX4_freeBetween_0 11 rfl rfl)
theorem dX4_freeBetween_12 : decode cX4_freeBetween 12 = .ok (.iconst (-1), 1) := dk_2 (dk_at dksX4_freeBetween_0 12 rfl rfl)
theorem dX4_freeBetween_13 : decode cX4_freeBetween 13 = .ok (.if_icmp .ne 7, 3) := dk_160 0 7 (dk_at dksX4_freeBetween_0 13 rfl rfl)
theorem dX4_freeBetween_16 : decode cX4_freeBetween 16 = .ok (.iload_n 3, 1) := dk_29 (dk_at dksX4_freeBetween_0 16 rfl rfl)
theorem dX4_freeBetween_17 : decode cX4_freeBetween 17 = .ok (.goto 22, 3) := dk_167 0 22 (dk_at dksX4_freeBetween_0 17 rfl rfl)
theorem dX4_freeBetween_20 : decode cX4_freeBetween 20 = .ok (.aload_n 0, 1) := dk_42 (dk_at dksX4_freeBetween_0 20 rfl rfl)
theorem dX4_freeBetween_21 : decode cX4_freeBetween 21 = .ok (.getfield 28, 3) := dk_180 0 28 (dk_at dksX4_freeBetween_0 21 rfl rfl)
theorem dX4_freeBetween_24 : decode cX4_freeBetween 24 = .ok (.iload_n 3, 1) := dk_29 (dk_at dksX4_freeBetween_1 0 rfl rfl)
theorem dX4_freeBetween_25 : decode cX4_freeBetween 25 = .ok (.iconst 1, 1) := dk_4 (dk_at dksX4_freeBetween_1 1 rfl rfl)
theorem dX4_freeBetween_26 : decode cX4_freeBetween 26 = .ok (.iadd, 1) := dk_96 (dk_at dksX4_freeBetween_1 2 rfl rfl)
theorem dX4_freeBetween_27 : decode cX4_freeBetween 27 = .ok (.iaload, 1) := dk_46 (dk_at dksX4_freeBetween_1 3 rfl rfl)
theorem dX4_freeBetween_28 : decode cX4_freeBetween 28 = .ok (.iconst (-1), 1) := dk_2 (dk_at dksX4_freeBetween_1 4 rfl rfl)
theorem dX4_freeBetween_29 : decode cX4_freeBetween 29 = .ok (.if_icmp .ne 9, 3) := dk_160 0 9 (dk_at dksX4_freeBetween_1 5 rfl rfl)
theorem dX4_freeBetween_32 : decode cX4_freeBetween 32 = .ok (.iload_n 3, 1) := dk_29 (dk_at dksX4_freeBetween_1 8 rfl rfl)
theorem dX4_freeBetween_33 : decode cX4_freeBetween 33 = .ok (.iconst 1, 1) := dk_4 (dk_at dksX4_freeBetween_1 9 rfl rfl)
theorem dX4_freeBetween_34 : decode cX4_freeBetween 34 = .ok (.iadd, 1) := dk_96 (dk_at dksX4_freeBetween_1 10 rfl rfl)
theorem dX4_freeBetween_35 : decode cX4_freeBetween 35 = .ok (.goto 4, 3) := dk_167 0 4 (dk_at dksX4_freeBetween_1 11 rfl rfl)
theorem dX4_freeBetween_38 : decode cX4_freeBetween 38 = .ok (.iconst (-1), 1) := dk_2 (dk_at dksX4_freeBetween_1 14 rfl rfl)
theorem dX4_freeBetween_39 : decode cX4_freeBetween 39 = .ok (.ireturn, 1) := dk_172 (dk_at dksX4_freeBetween_1 15 rfl rfl)
abbrev cX4_between : ByteArray := prog_19_method_26_code
def yX4_between : MethodName := ⟨RX4, "between", "(II)I"⟩
def dkwX4_between_0 : List UInt8 := [5, 26, 27, 96, 4, 100, 104, 172]
abbrev dktX4_between_0 : List UInt8 := dkwX4_between_0 ++ []
theorem dksX4_between_0 : cX4_between.data.toList.drop 0 = dktX4_between_0 := by decide +kernel
theorem dX4_between_0 : decode cX4_between 0 = .ok (.iconst 2, 1) := dk_5 (dk_at dksX4_between_0 0 rfl rfl)
theorem dX4_between_1 : decode cX4_between 1 = .ok (.iload_n 0, 1) := dk_26 (dk_at dksX4_between_0 1 rfl rfl)
theorem dX4_between_2 : decode cX4_between 2 = .ok (.iload_n 1, 1) := dk_27 (dk_at dksX4_between_0 2 rfl rfl)
theorem dX4_between_3 : decode cX4_between 3 = .ok (.iadd, 1) := dk_96 (dk_at dksX4_between_0 3 rfl rfl)
theorem dX4_between_4 : decode cX4_between 4 = .ok (.iconst 1, 1) := dk_4 (dk_at dksX4_between_0 4 rfl rfl)
theorem dX4_between_5 : decode cX4_between 5 = .ok (.isub, 1) := dk_100 (dk_at dksX4_between_0 5 rfl rfl)
theorem dX4_between_6 : decode cX4_between 6 = .ok (.imul, 1) := dk_104 (dk_at dksX4_between_0 6 rfl rfl)
theorem dX4_between_7 : decode cX4_between 7 = .ok (.ireturn, 1) := dk_172 (dk_at dksX4_between_0 7 rfl rfl)
abbrev cX4_ask : ByteArray := prog_19_method_33_code
def yX4_ask : MethodName := ⟨RX4, "ask", "(II)I"⟩
def dkwX4_ask_10 : List UInt8 := [27, 46, 29, 182, 0, 154, 29, 172]
abbrev dktX4_ask_10 : List UInt8 := dkwX4_ask_10 ++ []
def dkwX4_ask_9 : List UInt8 := [180, 0, 122, 79, 42, 89, 180, 0, 122, 4, 96, 181, 0, 122, 29, 2, 159, 0, 14, 42, 42, 180, 0, 44]
abbrev dktX4_ask_9 : List UInt8 := dkwX4_ask_9 ++ dktX4_ask_10
def dkwX4_ask_8 : List UInt8 := [180, 0, 37, 27, 46, 79, 42, 180, 0, 62, 42, 180, 0, 122, 3, 79, 42, 180, 0, 44, 27, 42]
abbrev dktX4_ask_8 : List UInt8 := dkwX4_ask_8 ++ dktX4_ask_9
def dkwX4_ask_7 : List UInt8 := [180, 0, 53, 42, 180, 0, 122, 42, 180, 0, 34, 27, 46, 79, 42, 180, 0, 56, 42, 180, 0, 122, 42]
abbrev dktX4_ask_7 : List UInt8 := dkwX4_ask_7 ++ dktX4_ask_8
def dkwX4_ask_6 : List UInt8 := [160, 0, 83, 42, 180, 0, 47, 42, 180, 0, 122, 3, 79, 42, 180, 0, 50, 42, 180, 0, 122, 28, 79, 42]
abbrev dktX4_ask_6 : List UInt8 := dkwX4_ask_6 ++ dktX4_ask_7
def dkwX4_ask_5 : List UInt8 := [180, 0, 37, 27, 46, 28, 182, 0, 151, 62, 29, 2, 159, 0, 93, 42, 180, 0, 44, 27, 46, 2]
abbrev dktX4_ask_5 : List UInt8 := dkwX4_ask_5 ++ dktX4_ask_6
def dkwX4_ask_4 : List UInt8 := [42, 29, 153, 0, 7, 3, 167, 0, 4, 6, 181, 0, 80, 42, 180, 0, 80, 158, 0, 5, 3, 172, 42, 42]
abbrev dktX4_ask_4 : List UInt8 := dkwX4_ask_4 ++ dktX4_ask_5
def dkwX4_ask_3 : List UInt8 := [167, 0, 23, 42, 180, 0, 50, 42, 180, 0, 44, 27, 46, 46, 28, 160, 0, 7, 4, 167, 0, 4, 3, 62]
abbrev dktX4_ask_3 : List UInt8 := dkwX4_ask_3 ++ dktX4_ask_4
def dkwX4_ask_2 : List UInt8 := [42, 180, 0, 44, 27, 46, 2, 160, 0, 20, 42, 180, 0, 122, 16, 40, 162, 0, 7, 4, 167, 0, 27, 3]
abbrev dktX4_ask_2 : List UInt8 := dkwX4_ask_2 ++ dktX4_ask_3
def dkwX4_ask_1 : List UInt8 := [42, 180, 0, 40, 27, 51, 154, 0, 7, 6, 167, 0, 4, 3, 181, 0, 80, 42, 180, 0, 80, 154, 0, 64]
abbrev dktX4_ask_1 : List UInt8 := dkwX4_ask_1 ++ dktX4_ask_2
def dkwX4_ask_0 : List UInt8 := [42, 42, 27, 182, 0, 148, 154, 0, 7, 4, 167, 0, 28, 28, 184, 0, 103, 154, 0, 7, 5, 167, 0, 17]
abbrev dktX4_ask_0 : List UInt8 := dkwX4_ask_0 ++ dktX4_ask_1
theorem dksX4_ask_0 : cX4_ask.data.toList.drop 0 = dktX4_ask_0 := by decide +kernel
theorem dksX4_ask_1 : cX4_ask.data.toList.drop 24 = dktX4_ask_1 := dk_seg dksX4_ask_0 24 rfl rfl
theorem dksX4_ask_2 : cX4_ask.data.toList.drop 48 = dktX4_ask_2 := dk_seg dksX4_ask_1 24 rfl rfl
theorem dksX4_ask_3 : cX4_ask.data.toList.drop 72 = dktX4_ask_3 := dk_seg dksX4_ask_2 24 rfl rfl
theorem dksX4_ask_4 : cX4_ask.data.toList.drop 96 = dktX4_ask_4 := dk_seg dksX4_ask_3 24 rfl rfl
theorem dksX4_ask_5 : cX4_ask.data.toList.drop 120 = dktX4_ask_5 := dk_seg dksX4_ask_4 24 rfl rfl
theorem dksX4_ask_6 : cX4_ask.data.toList.drop 142 = dktX4_ask_6 := dk_seg dksX4_ask_5 22 rfl rfl
theorem dksX4_ask_7 : cX4_ask.data.toList.drop 166 = dktX4_ask_7 := dk_seg dksX4_ask_6 24 rfl rfl
theorem dksX4_ask_8 : cX4_ask.data.toList.drop 189 = dktX4_ask_8 := dk_seg dksX4_ask_7 23 rfl rfl
theorem dksX4_ask_9 : cX4_ask.data.toList.drop 211 = dktX4_ask_9 := dk_seg dksX4_ask_8 22 rfl rfl
theorem dksX4_ask_10 : cX4_ask.data.toList.drop 235 = dktX4_ask_10 := dk_seg dksX4_ask_9 24 rfl rfl
theorem dX4_ask_0 : decode cX4_ask 0 = .ok (.aload_n 0, 1) := dk_42 (dk_at dksX4_ask_0 0 rfl rfl)
theorem dX4_ask_1 : decode cX4_ask 1 = .ok (.aload_n 0, 1) := dk_42 (dk_at dksX4_ask_0 1 rfl rfl)
theorem dX4_ask_2 : decode cX4_ask 2 = .ok (.iload_n 1, 1) := dk_27 (dk_at dksX4_ask_0 2 rfl rfl)
theorem dX4_ask_3 : decode cX4_ask 3 = .ok (.invokevirtual 148, 3) := dk_182 0 148 (dk_at dksX4_ask_0 3 rfl rfl)
theorem dX4_ask_6 : decode cX4_ask 6 = .ok (.ifCond .ne 7, 3) := dk_154 0 7 (dk_at dksX4_ask_0 6 rfl rfl)
theorem dX4_ask_9 : decode cX4_ask 9 = .ok (.iconst 1, 1) := dk_4 (dk_at dksX4_ask_0 9 rfl rfl)
theorem dX4_ask_10 : decode cX4_ask 10 = .ok (.goto 28, 3) := dk_167 0 28 (dk_at dksX4_ask_0 10 rfl rfl)
theorem dX4_ask_13 : decode cX4_ask 13 = .ok (.iload_n 2, 1) := dk_28 (dk_at dksX4_ask_0 13 rfl rfl)
theorem dX4_ask_14 : decode cX4_ask 14 = .ok (.invokestatic 103, 3) := dk_184 0 103 (dk_at dksX4_ask_0 14 rfl rfl)
theorem dX4_ask_17 : decode cX4_ask 17 = .ok (.ifCond .ne 7, 3) := dk_154 0 7 (dk_at dksX4_ask_0 17 rfl rfl)
theorem dX4_ask_20 : decode cX4_ask 20 = .ok (.iconst 2, 1) := dk_5 (dk_at dksX4_ask_0 20 rfl rfl)
theorem dX4_ask_21 : decode cX4_ask 21 = .ok (.goto 17, 3) := dk_167 0 17 (dk_at dksX4_ask_0 21 rfl rfl)
theorem dX4_ask_24 : decode cX4_ask 24 = .ok (.aload_n 0, 1) := dk_42 (dk_at dksX4_ask_1 0 rfl rfl)
theorem dX4_ask_25 : decode cX4_ask 25 = .ok (.getfield 40, 3) := dk_180 0 40 (dk_at dksX4_ask_1 1 rfl rfl)
theorem dX4_ask_28 : decode cX4_ask 28 = .ok (.iload_n 1, 1) := dk_27 (dk_at dksX4_ask_1 4 rfl rfl)
theorem dX4_ask_29 : decode cX4_ask 29 = .ok (.baload, 1) := dk_51 (dk_at dksX4_ask_1 5 rfl rfl)
theorem dX4_ask_30 : decode cX4_ask 30 = .ok (.ifCond .ne 7, 3) := dk_154 0 7 (dk_at dksX4_ask_1 6 rfl rfl)
theorem dX4_ask_33 : decode cX4_ask 33 = .ok (.iconst 3, 1) := dk_6 (dk_at dksX4_ask_1 9 rfl rfl)
theorem dX4_ask_34 : decode cX4_ask 34 = .ok (.goto 4, 3) := dk_167 0 4 (dk_at dksX4_ask_1 10 rfl rfl)
theorem dX4_ask_37 : decode cX4_ask 37 = .ok (.iconst 0, 1) := dk_3 (dk_at dksX4_ask_1 13 rfl rfl)
theorem dX4_ask_38 : decode cX4_ask 38 = .ok (.putfield 80, 3) := dk_181 0 80 (dk_at dksX4_ask_1 14 rfl rfl)
theorem dX4_ask_41 : decode cX4_ask 41 = .ok (.aload_n 0, 1) := dk_42 (dk_at dksX4_ask_1 17 rfl rfl)
theorem dX4_ask_42 : decode cX4_ask 42 = .ok (.getfield 80, 3) := dk_180 0 80 (dk_at dksX4_ask_1 18 rfl rfl)
theorem dX4_ask_45 : decode cX4_ask 45 = .ok (.ifCond .ne 64, 3) := dk_154 0 64 (dk_at dksX4_ask_1 21 rfl rfl)
theorem dX4_ask_48 : decode cX4_ask 48 = .ok (.aload_n 0, 1) := dk_42 (dk_at dksX4_ask_2 0 rfl rfl)
theorem dX4_ask_49 : decode cX4_ask 49 = .ok (.getfield 44, 3) := dk_180 0 44 (dk_at dksX4_ask_2 1 rfl rfl)
theorem dX4_ask_52 : decode cX4_ask 52 = .ok (.iload_n 1, 1) := dk_27 (dk_at dksX4_ask_2 4 rfl rfl)
theorem dX4_ask_53 : decode cX4_ask 53 = .ok (.iaload, 1) := dk_46 (dk_at dksX4_ask_2 5 rfl rfl)
theorem dX4_ask_54 : decode cX4_ask 54 = .ok (.iconst (-1), 1) := dk_2 (dk_at dksX4_ask_2 6 rfl rfl)
theorem dX4_ask_55 : decode cX4_ask 55 = .ok (.if_icmp .ne 20, 3) := dk_160 0 20 (dk_at dksX4_ask_2 7 rfl rfl)
theorem dX4_ask_58 : decode cX4_ask 58 = .ok (.aload_n 0, 1) := dk_42 (dk_at dksX4_ask_2 10 rfl rfl)
theorem dX4_ask_59 : decode cX4_ask 59 = .ok (.getfield 122, 3) := dk_180 0 122 (dk_at dksX4_ask_2 11 rfl rfl)
theorem dX4_ask_62 : decode cX4_ask 62 = .ok (.bipush 40, 2) := dk_16 40 (dk_at dksX4_ask_2 14 rfl rfl)
theorem dX4_ask_64 : decode cX4_ask 64 = .ok (.if_icmp .ge 7, 3) := dk_162 0 7 (dk_at dksX4_ask_2 16 rfl rfl)
theorem dX4_ask_67 : decode cX4_ask 67 = .ok (.iconst 1, 1) := dk_4 (dk_at dksX4_ask_2 19 rfl rfl)
theorem dX4_ask_68 : decode cX4_ask 68 = .ok (.goto 27, 3) := dk_167 0 27 (dk_at dksX4_ask_2 20 rfl rfl)
theorem dX4_ask_71 : decode cX4_ask 71 = .ok (.iconst 0, 1) := dk_3 (dk_at dksX4_ask_2 23 rfl rfl)
theorem dX4_ask_72 : decode cX4_ask 72 = .ok (.goto 23, 3) := dk_167 0 23 (dk_at dksX4_ask_3 0 rfl rfl)
theorem dX4_ask_75 : decode cX4_ask 75 = .ok (.aload_n 0, 1) := dk_42 (dk_at dksX4_ask_3 3 rfl rfl)
theorem dX4_ask_76 : decode cX4_ask 76 = .ok (.getfield 50, 3) := dk_180 0 50 (dk_at dksX4_ask_3 4 rfl rfl)
theorem dX4_ask_79 : decode cX4_ask 79 = .ok (.aload_n 0, 1) := dk_42 (dk_at dksX4_ask_3 7 rfl rfl)
theorem dX4_ask_80 : decode cX4_ask 80 = .ok (.getfield 44, 3) := dk_180 0 44 (dk_at dksX4_ask_3 8 rfl rfl)
theorem dX4_ask_83 : decode cX4_ask 83 = .ok (.iload_n 1, 1) := dk_27 (dk_at dksX4_ask_3 11 rfl rfl)
theorem dX4_ask_84 : decode cX4_ask 84 = .ok (.iaload, 1) := dk_46 (dk_at dksX4_ask_3 12 rfl rfl)
theorem dX4_ask_85 : decode cX4_ask 85 = .ok (.iaload, 1) := dk_46 (dk_at dksX4_ask_3 13 rfl rfl)
theorem dX4_ask_86 : decode cX4_ask 86 = .ok (.iload_n 2, 1) := dk_28 (dk_at dksX4_ask_3 14 rfl rfl)
theorem dX4_ask_87 : decode cX4_ask 87 = .ok (.if_icmp .ne 7, 3) := dk_160 0 7 (dk_at dksX4_ask_3 15 rfl rfl)
theorem dX4_ask_90 : decode cX4_ask 90 = .ok (.iconst 1, 1) := dk_4 (dk_at dksX4_ask_3 18 rfl rfl)
theorem dX4_ask_91 : decode cX4_ask 91 = .ok (.goto 4, 3) := dk_167 0 4 (dk_at dksX4_ask_3 19 rfl rfl)
theorem dX4_ask_94 : decode cX4_ask 94 = .ok (.iconst 0, 1) := dk_3 (dk_at dksX4_ask_3 22 rfl rfl)
theorem dX4_ask_95 : decode cX4_ask 95 = .ok (.istore_n 3, 1) := dk_62 (dk_at dksX4_ask_3 23 rfl rfl)
theorem dX4_ask_96 : decode cX4_ask 96 = .ok (.aload_n 0, 1) := dk_42 (dk_at dksX4_ask_4 0 rfl rfl)
theorem dX4_ask_97 : decode cX4_ask 97 = .ok (.iload_n 3, 1) := dk_29 (dk_at dksX4_ask_4 1 rfl rfl)
theorem dX4_ask_98 : decode cX4_ask 98 = .ok (.ifCond .eq 7, 3) := dk_153 0 7 (dk_at dksX4_ask_4 2 rfl rfl)
theorem dX4_ask_101 : decode cX4_ask 101 = .ok (.iconst 0, 1) := dk_3 (dk_at dksX4_ask_4 5 rfl rfl)
theorem dX4_ask_102 : decode cX4_ask 102 = .ok (.goto 4, 3) := dk_167 0 4 (dk_at dksX4_ask_4 6 rfl rfl)
theorem dX4_ask_105 : decode cX4_ask 105 = .ok (.iconst 3, 1) := dk_6 (dk_at dksX4_ask_4 9 rfl rfl)
theorem dX4_ask_106 : decode cX4_ask 106 = .ok (.putfield 80, 3) := dk_181 0 80 (dk_at dksX4_ask_4 10 rfl rfl)
theorem dX4_ask_109 : decode cX4_ask 109 = .ok (.aload_n 0, 1) := dk_42 (dk_at dksX4_ask_4 13 rfl rfl)
theorem dX4_ask_110 : decode cX4_ask 110 = .ok (.getfield 80, 3) := dk_180 0 80 (dk_at dksX4_ask_4 14 rfl rfl)
theorem dX4_ask_113 : decode cX4_ask 113 = .ok (.ifCond .le 5, 3) := dk_158 0 5 (dk_at dksX4_ask_4 17 rfl rfl)
theorem dX4_ask_116 : decode cX4_ask 116 = .ok (.iconst 0, 1) := dk_3 (dk_at dksX4_ask_4 20 rfl rfl)
theorem dX4_ask_117 : decode cX4_ask 117 = .ok (.ireturn, 1) := dk_172 (dk_at dksX4_ask_4 21 rfl rfl)
theorem dX4_ask_118 : decode cX4_ask 118 = .ok (.aload_n 0, 1) := dk_42 (dk_at dksX4_ask_4 22 rfl rfl)
theorem dX4_ask_119 : decode cX4_ask 119 = .ok (.aload_n 0, 1) := dk_42 (dk_at dksX4_ask_4 23 rfl rfl)
theorem dX4_ask_120 : decode cX4_ask 120 = .ok (.getfield 37, 3) := dk_180 0 37 (dk_at dksX4_ask_5 0 rfl rfl)
theorem dX4_ask_123 : decode cX4_ask 123 = .ok (.iload_n 1, 1) := dk_27 (dk_at dksX4_ask_5 3 rfl rfl)
theorem dX4_ask_124 : decode cX4_ask 124 = .ok (.iaload, 1) := dk_46 (dk_at dksX4_ask_5 4 rfl rfl)
theorem dX4_ask_125 : decode cX4_ask 125 = .ok (.iload_n 2, 1) := dk_28 (dk_at dksX4_ask_5 5 rfl rfl)
theorem dX4_ask_126 : decode cX4_ask 126 = .ok (.invokevirtual 151, 3) := dk_182 0 151 (dk_at dksX4_ask_5 6 rfl rfl)
theorem dX4_ask_129 : decode cX4_ask 129 = .ok (.istore_n 3, 1) := dk_62 (dk_at dksX4_ask_5 9 rfl rfl)
theorem dX4_ask_130 : decode cX4_ask 130 = .ok (.iload_n 3, 1) := dk_29 (dk_at dksX4_ask_5 10 rfl rfl)
theorem dX4_ask_131 : decode cX4_ask 131 = .ok (.iconst (-1), 1) := dk_2 (dk_at dksX4_ask_5 11 rfl rfl)
theorem dX4_ask_132 : decode cX4_ask 132 = .ok (.if_icmp .eq 93, 3) := dk_159 0 93 (dk_at dksX4_ask_5 12 rfl rfl)
theorem dX4_ask_135 : decode cX4_ask 135 = .ok (.aload_n 0, 1) := dk_42 (dk_at dksX4_ask_5 15 rfl rfl)
theorem dX4_ask_136 : decode cX4_ask 136 = .ok (.getfield 44, 3) := dk_180 0 44 (dk_at dksX4_ask_5 16 rfl rfl)
theorem dX4_ask_139 : decode cX4_ask 139 = .ok (.iload_n 1, 1) := dk_27 (dk_at dksX4_ask_5 19 rfl rfl)
theorem dX4_ask_140 : decode cX4_ask 140 = .ok (.iaload, 1) := dk_46 (dk_at dksX4_ask_5 20 rfl rfl)
theorem dX4_ask_141 : decode cX4_ask 141 = .ok (.iconst (-1), 1) := dk_2 (dk_at dksX4_ask_5 21 rfl rfl)
theorem dX4_ask_142 : decode cX4_ask 142 = .ok (.if_icmp .ne 83, 3) := dk_160 0 83 (dk_at dksX4_ask_6 0 rfl rfl)
theorem dX4_ask_145 : decode cX4_ask 145 = .ok (.aload_n 0, 1) := dk_42 (dk_at dksX4_ask_6 3 rfl rfl)
theorem dX4_ask_146 : decode cX4_ask 146 = .ok (.getfield 47, 3) := dk_180 0 47 (dk_at dksX4_ask_6 4 rfl rfl)
theorem dX4_ask_149 : decode cX4_ask 149 = .ok (.aload_n 0, 1) := dk_42 (dk_at dksX4_ask_6 7 rfl rfl)
theorem dX4_ask_150 : decode cX4_ask 150 = .ok (.getfield 122, 3) := dk_180 0 122 (dk_at dksX4_ask_6 8 rfl rfl)
theorem dX4_ask_153 : decode cX4_ask 153 = .ok (.iconst 0, 1) := dk_3 (dk_at dksX4_ask_6 11 rfl rfl)
theorem dX4_ask_154 : decode cX4_ask 154 = .ok (.iastore, 1) := dk_79 (dk_at dksX4_ask_6 12 rfl rfl)
theorem dX4_ask_155 : decode cX4_ask 155 = .ok (.aload_n 0, 1) := dk_42 (dk_at dksX4_ask_6 13 rfl rfl)
theorem dX4_ask_156 : decode cX4_ask 156 = .ok (.getfield 50, 3) := dk_180 0 50 (dk_at dksX4_ask_6 14 rfl rfl)
theorem dX4_ask_159 : decode cX4_ask 159 = .ok (.aload_n 0, 1) := dk_42 (dk_at dksX4_ask_6 17 rfl rfl)
theorem dX4_ask_160 : decode cX4_ask 160 = .ok (.getfield 122, 3) := dk_180 0 122 (dk_at dksX4_ask_6 18 rfl rfl)
theorem dX4_ask_163 : decode cX4_ask 163 = .ok (.iload_n 2, 1) := dk_28 (dk_at dksX4_ask_6 21 rfl rfl)
theorem dX4_ask_164 : decode cX4_ask 164 = .ok (.iastore, 1) := dk_79 (dk_at dksX4_ask_6 22 rfl rfl)
theorem dX4_ask_165 : decode cX4_ask 165 = .ok (.aload_n 0, 1) := dk_42 (dk_at dksX4_ask_6 23 rfl rfl)
theorem dX4_ask_166 : decode cX4_ask 166 = .ok (.getfield 53, 3) := dk_180 0 53 (dk_at dksX4_ask_7 0 rfl rfl)
theorem dX4_ask_169 : decode cX4_ask 169 = .ok (.aload_n 0, 1) := dk_42 (dk_at dksX4_ask_7 3 rfl rfl)
theorem dX4_ask_170 : decode cX4_ask 170 = .ok (.getfield 122, 3) := dk_180 0 122 (dk_at dksX4_ask_7 4 rfl rfl)
theorem dX4_ask_173 : decode cX4_ask 173 = .ok (.aload_n 0, 1) := dk_42 (dk_at dksX4_ask_7 7 rfl rfl)
theorem dX4_ask_174 : decode cX4_ask 174 = .ok (.getfield 34, 3) := dk_180 0 34 (dk_at dksX4_ask_7 8 rfl rfl)
theorem dX4_ask_177 : decode cX4_ask 177 = .ok (.iload_n 1, 1) := dk_27 (dk_at dksX4_ask_7 11 rfl rfl)
theorem dX4_ask_178 : decode cX4_ask 178 = .ok (.iaload, 1) := dk_46 (dk_at dksX4_ask_7 12 rfl rfl)
theorem dX4_ask_179 : decode cX4_ask 179 = .ok (.iastore, 1) := dk_79 (dk_at dksX4_ask_7 13 rfl rfl)
theorem dX4_ask_180 : decode cX4_ask 180 = .ok (.aload_n 0, 1) := dk_42 (dk_at dksX4_ask_7 14 rfl rfl)
theorem dX4_ask_181 : decode cX4_ask 181 = .ok (.getfield 56, 3) := dk_180 0 56 (dk_at dksX4_ask_7 15 rfl rfl)
theorem dX4_ask_184 : decode cX4_ask 184 = .ok (.aload_n 0, 1) := dk_42 (dk_at dksX4_ask_7 18 rfl rfl)
theorem dX4_ask_185 : decode cX4_ask 185 = .ok (.getfield 122, 3) := dk_180 0 122 (dk_at dksX4_ask_7 19 rfl rfl)
theorem dX4_ask_188 : decode cX4_ask 188 = .ok (.aload_n 0, 1) := dk_42 (dk_at dksX4_ask_7 22 rfl rfl)
theorem dX4_ask_189 : decode cX4_ask 189 = .ok (.getfield 37, 3) := dk_180 0 37 (dk_at dksX4_ask_8 0 rfl rfl)
theorem dX4_ask_192 : decode cX4_ask 192 = .ok (.iload_n 1, 1) := dk_27 (dk_at dksX4_ask_8 3 rfl rfl)
theorem dX4_ask_193 : decode cX4_ask 193 = .ok (.iaload, 1) := dk_46 (dk_at dksX4_ask_8 4 rfl rfl)
theorem dX4_ask_194 : decode cX4_ask 194 = .ok (.iastore, 1) := dk_79 (dk_at dksX4_ask_8 5 rfl rfl)
theorem dX4_ask_195 : decode cX4_ask 195 = .ok (.aload_n 0, 1) := dk_42 (dk_at dksX4_ask_8 6 rfl rfl)
theorem dX4_ask_196 : decode cX4_ask 196 = .ok (.getfield 62, 3) := dk_180 0 62 (dk_at dksX4_ask_8 7 rfl rfl)
theorem dX4_ask_199 : decode cX4_ask 199 = .ok (.aload_n 0, 1) := dk_42 (dk_at dksX4_ask_8 10 rfl rfl)
theorem dX4_ask_200 : decode cX4_ask 200 = .ok (.getfield 122, 3) := dk_180 0 122 (dk_at dksX4_ask_8 11 rfl rfl)
theorem dX4_ask_203 : decode cX4_ask 203 = .ok (.iconst 0, 1) := dk_3 (dk_at dksX4_ask_8 14 rfl rfl)
theorem dX4_ask_204 : decode cX4_ask 204 = .ok (.iastore, 1) := dk_79 (dk_at dksX4_ask_8 15 rfl rfl)
theorem dX4_ask_205 : decode cX4_ask 205 = .ok (.aload_n 0, 1) := dk_42 (dk_at dksX4_ask_8 16 rfl rfl)
theorem dX4_ask_206 : decode cX4_ask 206 = .ok (.getfield 44, 3) := dk_180 0 44 (dk_at dksX4_ask_8 17 rfl rfl)
theorem dX4_ask_209 : decode cX4_ask 209 = .ok (.iload_n 1, 1) := dk_27 (dk_at dksX4_ask_8 20 rfl rfl)
theorem dX4_ask_210 : decode cX4_ask 210 = .ok (.aload_n 0, 1) := dk_42 (dk_at dksX4_ask_8 21 rfl rfl)
theorem dX4_ask_211 : decode cX4_ask 211 = .ok (.getfield 122, 3) := dk_180 0 122 (dk_at dksX4_ask_9 0 rfl rfl)
theorem dX4_ask_214 : decode cX4_ask 214 = .ok (.iastore, 1) := dk_79 (dk_at dksX4_ask_9 3 rfl rfl)
theorem dX4_ask_215 : decode cX4_ask 215 = .ok (.aload_n 0, 1) := dk_42 (dk_at dksX4_ask_9 4 rfl rfl)
theorem dX4_ask_216 : decode cX4_ask 216 = .ok (.dup, 1) := dk_89 (dk_at dksX4_ask_9 5 rfl rfl)
theorem dX4_ask_217 : decode cX4_ask 217 = .ok (.getfield 122, 3) := dk_180 0 122 (dk_at dksX4_ask_9 6 rfl rfl)
theorem dX4_ask_220 : decode cX4_ask 220 = .ok (.iconst 1, 1) := dk_4 (dk_at dksX4_ask_9 9 rfl rfl)
theorem dX4_ask_221 : decode cX4_ask 221 = .ok (.iadd, 1) := dk_96 (dk_at dksX4_ask_9 10 rfl rfl)
theorem dX4_ask_222 : decode cX4_ask 222 = .ok (.putfield 122, 3) := dk_181 0 122 (dk_at dksX4_ask_9 11 rfl rfl)
theorem dX4_ask_225 : decode cX4_ask 225 = .ok (.iload_n 3, 1) := dk_29 (dk_at dksX4_ask_9 14 rfl rfl)
theorem dX4_ask_226 : decode cX4_ask 226 = .ok (.iconst (-1), 1) := dk_2 (dk_at dksX4_ask_9 15 rfl rfl)
theorem dX4_ask_227 : decode cX4_ask 227 = .ok (.if_icmp .eq 14, 3) := dk_159 0 14 (dk_at dksX4_ask_9 16 rfl rfl)
theorem dX4_ask_230 : decode cX4_ask 230 = .ok (.aload_n 0, 1) := dk_42 (dk_at dksX4_ask_9 19 rfl rfl)
theorem dX4_ask_231 : decode cX4_ask 231 = .ok (.aload_n 0, 1) := dk_42 (dk_at dksX4_ask_9 20 rfl rfl)
theorem dX4_ask_232 : decode cX4_ask 232 = .ok (.getfield 44, 3) := dk_180 0 44 (dk_at dksX4_ask_9 21 rfl rfl)
theorem dX4_ask_235 : decode cX4_ask 235 = .ok (.iload_n 1, 1) := dk_27 (dk_at dksX4_ask_10 0 rfl rfl)
theorem dX4_ask_236 : decode cX4_ask 236 = .ok (.iaload, 1) := dk_46 (dk_at dksX4_ask_10 1 rfl rfl)
theorem dX4_ask_237 : decode cX4_ask 237 = .ok (.iload_n 3, 1) := dk_29 (dk_at dksX4_ask_10 2 rfl rfl)
theorem dX4_ask_238 : decode cX4_ask 238 = .ok (.invokevirtual 154, 3) := dk_182 0 154 (dk_at dksX4_ask_10 3 rfl rfl)
theorem dX4_ask_241 : decode cX4_ask 241 = .ok (.iload_n 3, 1) := dk_29 (dk_at dksX4_ask_10 6 rfl rfl)
theorem dX4_ask_242 : decode cX4_ask 242 = .ok (.ireturn, 1) := dk_172 (dk_at dksX4_ask_10 7 rfl rfl)
abbrev cX4_isCall : ByteArray := prog_19_method_22_code
def yX4_isCall : MethodName := ⟨RX4, "isCall", "(I)Z"⟩
def dkwX4_isCall_0 : List UInt8 := [27, 3, 42, 180, 0, 119, 4, 100, 184, 0, 84, 172]
abbrev dktX4_isCall_0 : List UInt8 := dkwX4_isCall_0 ++ []
theorem dksX4_isCall_0 : cX4_isCall.data.toList.drop 0 = dktX4_isCall_0 := by decide +kernel
theorem dX4_isCall_0 : decode cX4_isCall 0 = .ok (.iload_n 1, 1) := dk_27 (dk_at dksX4_isCall_0 0 rfl rfl)
theorem dX4_isCall_1 : decode cX4_isCall 1 = .ok (.iconst 0, 1) := dk_3 (dk_at dksX4_isCall_0 1 rfl rfl)
theorem dX4_isCall_2 : decode cX4_isCall 2 = .ok (.aload_n 0, 1) := dk_42 (dk_at dksX4_isCall_0 2 rfl rfl)
theorem dX4_isCall_3 : decode cX4_isCall 3 = .ok (.getfield 119, 3) := dk_180 0 119 (dk_at dksX4_isCall_0 3 rfl rfl)
theorem dX4_isCall_6 : decode cX4_isCall 6 = .ok (.iconst 1, 1) := dk_4 (dk_at dksX4_isCall_0 6 rfl rfl)
theorem dX4_isCall_7 : decode cX4_isCall 7 = .ok (.isub, 1) := dk_100 (dk_at dksX4_isCall_0 7 rfl rfl)
theorem dX4_isCall_8 : decode cX4_isCall 8 = .ok (.invokestatic 84, 3) := dk_184 0 84 (dk_at dksX4_isCall_0 8 rfl rfl)
theorem dX4_isCall_11 : decode cX4_isCall 11 = .ok (.ireturn, 1) := dk_172 (dk_at dksX4_isCall_0 11 rfl rfl)
abbrev cX4_finds : ByteArray := prog_19_method_31_code
def yX4_finds : MethodName := ⟨RX4, "finds", "(II)I"⟩
def dkwX4_finds_4 : List UInt8 := [21, 8, 62, 21, 9, 54, 4, 132, 7, 1, 167, 255, 179, 132, 5, 1, 167, 255, 156, 29, 172]
abbrev dktX4_finds_4 : List UInt8 := dkwX4_finds_4 ++ []
def dkwX4_finds_3 : List UInt8 := [182, 0, 116, 154, 0, 27, 42, 21, 8, 28, 182, 0, 145, 153, 0, 17, 21, 9, 21, 4, 162, 0, 10]
abbrev dktX4_finds_3 : List UInt8 := dkwX4_finds_3 ++ dktX4_finds_4
def dkwX4_finds_2 : List UInt8 := [21, 7, 96, 46, 54, 8, 42, 180, 0, 19, 21, 6, 46, 4, 100, 21, 7, 100, 54, 9, 42, 21, 8]
abbrev dktX4_finds_2 : List UInt8 := dkwX4_finds_2 ++ dktX4_finds_3
def dkwX4_finds_1 : List UInt8 := [54, 7, 21, 7, 42, 180, 0, 19, 21, 6, 46, 162, 0, 71, 42, 180, 0, 22, 16, 6, 21, 6, 104]
abbrev dktX4_finds_1 : List UInt8 := dkwX4_finds_1 ++ dktX4_finds_2
def dkwX4_finds_0 : List UInt8 := [2, 62, 16, 6, 54, 4, 3, 54, 5, 21, 5, 8, 162, 0, 100, 8, 27, 104, 21, 5, 96, 54, 6, 3]
abbrev dktX4_finds_0 : List UInt8 := dkwX4_finds_0 ++ dktX4_finds_1
theorem dksX4_finds_0 : cX4_finds.data.toList.drop 0 = dktX4_finds_0 := by decide +kernel
theorem dksX4_finds_1 : cX4_finds.data.toList.drop 24 = dktX4_finds_1 := dk_seg dksX4_finds_0 24 rfl rfl
theorem dksX4_finds_2 : cX4_finds.data.toList.drop 47 = dktX4_finds_2 := dk_seg dksX4_finds_1 23 rfl rfl
theorem dksX4_finds_3 : cX4_finds.data.toList.drop 70 = dktX4_finds_3 := dk_seg dksX4_finds_2 23 rfl rfl
theorem dksX4_finds_4 : cX4_finds.data.toList.drop 93 = dktX4_finds_4 := dk_seg dksX4_finds_3 23 rfl rfl
theorem dX4_finds_0 : decode cX4_finds 0 = .ok (.iconst (-1), 1) := dk_2 (dk_at dksX4_finds_0 0 rfl rfl)
theorem dX4_finds_1 : decode cX4_finds 1 = .ok (.istore_n 3, 1) := dk_62 (dk_at dksX4_finds_0 1 rfl rfl)
theorem dX4_finds_2 : decode cX4_finds 2 = .ok (.bipush 6, 2) := dk_16 6 (dk_at dksX4_finds_0 2 rfl rfl)
theorem dX4_finds_4 : decode cX4_finds 4 = .ok (.istore 4, 2) := dk_54 4 (dk_at dksX4_finds_0 4 rfl rfl)
theorem dX4_finds_6 : decode cX4_finds 6 = .ok (.iconst 0, 1) := dk_3 (dk_at dksX4_finds_0 6 rfl rfl)
theorem dX4_finds_7 : decode cX4_finds 7 = .ok (.istore 5, 2) := dk_54 5 (dk_at dksX4_finds_0 7 rfl rfl)
theorem dX4_finds_9 : decode cX4_finds 9 = .ok (.iload 5, 2) := dk_21 5 (dk_at dksX4_finds_0 9 rfl rfl)
theorem dX4_finds_11 : decode cX4_finds 11 = .ok (.iconst 5, 1) := dk_8 (dk_at dksX4_finds_0 11 rfl rfl)
theorem dX4_finds_12 : decode cX4_finds 12 = .ok (.if_icmp .ge 100, 3) := dk_162 0 100 (dk_at dksX4_finds_0 12 rfl rfl)
theorem dX4_finds_15 : decode cX4_finds 15 = .ok (.iconst 5, 1) := dk_8 (dk_at dksX4_finds_0 15 rfl rfl)
theorem dX4_finds_16 : decode cX4_finds 16 = .ok (.iload_n 1, 1) := dk_27 (dk_at dksX4_finds_0 16 rfl rfl)
theorem dX4_finds_17 : decode cX4_finds 17 = .ok (.imul, 1) := dk_104 (dk_at dksX4_finds_0 17 rfl rfl)
theorem dX4_finds_18 : decode cX4_finds 18 = .ok (.iload 5, 2) := dk_21 5 (dk_at dksX4_finds_0 18 rfl rfl)
theorem dX4_finds_20 : decode cX4_finds 20 = .ok (.iadd, 1) := dk_96 (dk_at dksX4_finds_0 20 rfl rfl)
theorem dX4_finds_21 : decode cX4_finds 21 = .ok (.istore 6, 2) := dk_54 6 (dk_at dksX4_finds_0 21 rfl rfl)
theorem dX4_finds_23 : decode cX4_finds 23 = .ok (.iconst 0, 1) := dk_3 (dk_at dksX4_finds_0 23 rfl rfl)
theorem dX4_finds_24 : decode cX4_finds 24 = .ok (.istore 7, 2) := dk_54 7 (dk_at dksX4_finds_1 0 rfl rfl)
theorem dX4_finds_26 : decode cX4_finds 26 = .ok (.iload 7, 2) := dk_21 7 (dk_at dksX4_finds_1 2 rfl rfl)
theorem dX4_finds_28 : decode cX4_finds 28 = .ok (.aload_n 0, 1) := dk_42 (dk_at dksX4_finds_1 4 rfl rfl)
theorem dX4_finds_29 : decode cX4_finds 29 = .ok (.getfield 19, 3) := dk_180 0 19 (dk_at dksX4_finds_1 5 rfl rfl)
theorem dX4_finds_32 : decode cX4_finds 32 = .ok (.iload 6, 2) := dk_21 6 (dk_at dksX4_finds_1 8 rfl rfl)
theorem dX4_finds_34 : decode cX4_finds 34 = .ok (.iaload, 1) := dk_46 (dk_at dksX4_finds_1 10 rfl rfl)
theorem dX4_finds_35 : decode cX4_finds 35 = .ok (.if_icmp .ge 71, 3) := dk_162 0 71 (dk_at dksX4_finds_1 11 rfl rfl)
theorem dX4_finds_38 : decode cX4_finds 38 = .ok (.aload_n 0, 1) := dk_42 (dk_at dksX4_finds_1 14 rfl rfl)
theorem dX4_finds_39 : decode cX4_finds 39 = .ok (.getfield 22, 3) := dk_180 0 22 (dk_at dksX4_finds_1 15 rfl rfl)
theorem dX4_finds_42 : decode cX4_finds 42 = .ok (.bipush 6, 2) := dk_16 6 (dk_at dksX4_finds_1 18 rfl rfl)
theorem dX4_finds_44 : decode cX4_finds 44 = .ok (.iload 6, 2) := dk_21 6 (dk_at dksX4_finds_1 20 rfl rfl)
theorem dX4_finds_46 : decode cX4_finds 46 = .ok (.imul, 1) := dk_104 (dk_at dksX4_finds_1 22 rfl rfl)
theorem dX4_finds_47 : decode cX4_finds 47 = .ok (.iload 7, 2) := dk_21 7 (dk_at dksX4_finds_2 0 rfl rfl)
theorem dX4_finds_49 : decode cX4_finds 49 = .ok (.iadd, 1) := dk_96 (dk_at dksX4_finds_2 2 rfl rfl)
theorem dX4_finds_50 : decode cX4_finds 50 = .ok (.iaload, 1) := dk_46 (dk_at dksX4_finds_2 3 rfl rfl)
theorem dX4_finds_51 : decode cX4_finds 51 = .ok (.istore 8, 2) := dk_54 8 (dk_at dksX4_finds_2 4 rfl rfl)
theorem dX4_finds_53 : decode cX4_finds 53 = .ok (.aload_n 0, 1) := dk_42 (dk_at dksX4_finds_2 6 rfl rfl)
theorem dX4_finds_54 : decode cX4_finds 54 = .ok (.getfield 19, 3) := dk_180 0 19 (dk_at dksX4_finds_2 7 rfl rfl)
theorem dX4_finds_57 : decode cX4_finds 57 = .ok (.iload 6, 2) := dk_21 6 (dk_at dksX4_finds_2 10 rfl rfl)
theorem dX4_finds_59 : decode cX4_finds 59 = .ok (.iaload, 1) := dk_46 (dk_at dksX4_finds_2 12 rfl rfl)
theorem dX4_finds_60 : decode cX4_finds 60 = .ok (.iconst 1, 1) := dk_4 (dk_at dksX4_finds_2 13 rfl rfl)
theorem dX4_finds_61 : decode cX4_finds 61 = .ok (.isub, 1) := dk_100 (dk_at dksX4_finds_2 14 rfl rfl)
theorem dX4_finds_62 : decode cX4_finds 62 = .ok (.iload 7, 2) := dk_21 7 (dk_at dksX4_finds_2 15 rfl rfl)
theorem dX4_finds_64 : decode cX4_finds 64 = .ok (.isub, 1) := dk_100 (dk_at dksX4_finds_2 17 rfl rfl)
theorem dX4_finds_65 : decode cX4_finds 65 = .ok (.istore 9, 2) := dk_54 9 (dk_at dksX4_finds_2 18 rfl rfl)
theorem dX4_finds_67 : decode cX4_finds 67 = .ok (.aload_n 0, 1) := dk_42 (dk_at dksX4_finds_2 20 rfl rfl)
theorem dX4_finds_68 : decode cX4_finds 68 = .ok (.iload 8, 2) := dk_21 8 (dk_at dksX4_finds_2 21 rfl rfl)
theorem dX4_finds_70 : decode cX4_finds 70 = .ok (.invokevirtual 116, 3) := dk_182 0 116 (dk_at dksX4_finds_3 0 rfl rfl)
theorem dX4_finds_73 : decode cX4_finds 73 = .ok (.ifCond .ne 27, 3) := dk_154 0 27 (dk_at dksX4_finds_3 3 rfl rfl)
theorem dX4_finds_76 : decode cX4_finds 76 = .ok (.aload_n 0, 1) := dk_42 (dk_at dksX4_finds_3 6 rfl rfl)
theorem dX4_finds_77 : decode cX4_finds 77 = .ok (.iload 8, 2) := dk_21 8 (dk_at dksX4_finds_3 7 rfl rfl)
theorem dX4_finds_79 : decode cX4_finds 79 = .ok (.iload_n 2, 1) := dk_28 (dk_at dksX4_finds_3 9 rfl rfl)
theorem dX4_finds_80 : decode cX4_finds 80 = .ok (.invokevirtual 145, 3) := dk_182 0 145 (dk_at dksX4_finds_3 10 rfl rfl)
theorem dX4_finds_83 : decode cX4_finds 83 = .ok (.ifCond .eq 17, 3) := dk_153 0 17 (dk_at dksX4_finds_3 13 rfl rfl)
theorem dX4_finds_86 : decode cX4_finds 86 = .ok (.iload 9, 2) := dk_21 9 (dk_at dksX4_finds_3 16 rfl rfl)
theorem dX4_finds_88 : decode cX4_finds 88 = .ok (.iload 4, 2) := dk_21 4 (dk_at dksX4_finds_3 18 rfl rfl)
theorem dX4_finds_90 : decode cX4_finds 90 = .ok (.if_icmp .ge 10, 3) := dk_162 0 10 (dk_at dksX4_finds_3 20 rfl rfl)
theorem dX4_finds_93 : decode cX4_finds 93 = .ok (.iload 8, 2) := dk_21 8 (dk_at dksX4_finds_4 0 rfl rfl)
theorem dX4_finds_95 : decode cX4_finds 95 = .ok (.istore_n 3, 1) := dk_62 (dk_at dksX4_finds_4 2 rfl rfl)
theorem dX4_finds_96 : decode cX4_finds 96 = .ok (.iload 9, 2) := dk_21 9 (dk_at dksX4_finds_4 3 rfl rfl)
theorem dX4_finds_98 : decode cX4_finds 98 = .ok (.istore 4, 2) := dk_54 4 (dk_at dksX4_finds_4 5 rfl rfl)
theorem dX4_finds_100 : decode cX4_finds 100 = .ok (.iinc 7 1, 3) := dk_132 7 1 (dk_at dksX4_finds_4 7 rfl rfl)
theorem dX4_finds_103 : decode cX4_finds 103 = .ok (.goto (-77), 3) := dk_167 255 179 (dk_at dksX4_finds_4 10 rfl rfl)
theorem dX4_finds_106 : decode cX4_finds 106 = .ok (.iinc 5 1, 3) := dk_132 5 1 (dk_at dksX4_finds_4 13 rfl rfl)
theorem dX4_finds_109 : decode cX4_finds 109 = .ok (.goto (-100), 3) := dk_167 255 156 (dk_at dksX4_finds_4 16 rfl rfl)
theorem dX4_finds_112 : decode cX4_finds 112 = .ok (.iload_n 3, 1) := dk_29 (dk_at dksX4_finds_4 19 rfl rfl)
theorem dX4_finds_113 : decode cX4_finds 113 = .ok (.ireturn, 1) := dk_172 (dk_at dksX4_finds_4 20 rfl rfl)
abbrev cX4_fits : ByteArray := prog_19_method_30_code
def yX4_fits : MethodName := ⟨RX4, "fits", "(II)Z"⟩
def dkwX4_fits_1 : List UInt8 := [42, 180, 0, 13, 27, 46, 46, 28, 122, 4, 126, 4, 160, 0, 7, 4, 167, 0, 4, 3, 172]
abbrev dktX4_fits_1 : List UInt8 := dkwX4_fits_1 ++ []
def dkwX4_fits_0 : List UInt8 := [42, 180, 0, 13, 27, 46, 2, 159, 0, 32, 42, 180, 0, 13, 27, 46, 28, 159, 0, 22, 42, 180, 0, 25]
abbrev dktX4_fits_0 : List UInt8 := dkwX4_fits_0 ++ dktX4_fits_1
theorem dksX4_fits_0 : cX4_fits.data.toList.drop 0 = dktX4_fits_0 := by decide +kernel
theorem dksX4_fits_1 : cX4_fits.data.toList.drop 24 = dktX4_fits_1 := dk_seg dksX4_fits_0 24 rfl rfl
theorem dX4_fits_0 : decode cX4_fits 0 = .ok (.aload_n 0, 1) := dk_42 (dk_at dksX4_fits_0 0 rfl rfl)
theorem dX4_fits_1 : decode cX4_fits 1 = .ok (.getfield 13, 3) := dk_180 0 13 (dk_at dksX4_fits_0 1 rfl rfl)
theorem dX4_fits_4 : decode cX4_fits 4 = .ok (.iload_n 1, 1) := dk_27 (dk_at dksX4_fits_0 4 rfl rfl)
theorem dX4_fits_5 : decode cX4_fits 5 = .ok (.iaload, 1) := dk_46 (dk_at dksX4_fits_0 5 rfl rfl)
theorem dX4_fits_6 : decode cX4_fits 6 = .ok (.iconst (-1), 1) := dk_2 (dk_at dksX4_fits_0 6 rfl rfl)
theorem dX4_fits_7 : decode cX4_fits 7 = .ok (.if_icmp .eq 32, 3) := dk_159 0 32 (dk_at dksX4_fits_0 7 rfl rfl)
theorem dX4_fits_10 : decode cX4_fits 10 = .ok (.aload_n 0, 1) := dk_42 (dk_at dksX4_fits_0 10 rfl rfl)
theorem dX4_fits_11 : decode cX4_fits 11 = .ok (.getfield 13, 3) := dk_180 0 13 (dk_at dksX4_fits_0 11 rfl rfl)
theorem dX4_fits_14 : decode cX4_fits 14 = .ok (.iload_n 1, 1) := dk_27 (dk_at dksX4_fits_0 14 rfl rfl)
theorem dX4_fits_15 : decode cX4_fits 15 = .ok (.iaload, 1) := dk_46 (dk_at dksX4_fits_0 15 rfl rfl)
theorem dX4_fits_16 : decode cX4_fits 16 = .ok (.iload_n 2, 1) := dk_28 (dk_at dksX4_fits_0 16 rfl rfl)
theorem dX4_fits_17 : decode cX4_fits 17 = .ok (.if_icmp .eq 22, 3) := dk_159 0 22 (dk_at dksX4_fits_0 17 rfl rfl)
theorem dX4_fits_20 : decode cX4_fits 20 = .ok (.aload_n 0, 1) := dk_42 (dk_at dksX4_fits_0 20 rfl rfl)
theorem dX4_fits_21 : decode cX4_fits 21 = .ok (.getfield 25, 3) := dk_180 0 25 (dk_at dksX4_fits_0 21 rfl rfl)
theorem dX4_fits_24 : decode cX4_fits 24 = .ok (.aload_n 0, 1) := dk_42 (dk_at dksX4_fits_1 0 rfl rfl)
theorem dX4_fits_25 : decode cX4_fits 25 = .ok (.getfield 13, 3) := dk_180 0 13 (dk_at dksX4_fits_1 1 rfl rfl)
theorem dX4_fits_28 : decode cX4_fits 28 = .ok (.iload_n 1, 1) := dk_27 (dk_at dksX4_fits_1 4 rfl rfl)
theorem dX4_fits_29 : decode cX4_fits 29 = .ok (.iaload, 1) := dk_46 (dk_at dksX4_fits_1 5 rfl rfl)
theorem dX4_fits_30 : decode cX4_fits 30 = .ok (.iaload, 1) := dk_46 (dk_at dksX4_fits_1 6 rfl rfl)
theorem dX4_fits_31 : decode cX4_fits 31 = .ok (.iload_n 2, 1) := dk_28 (dk_at dksX4_fits_1 7 rfl rfl)
theorem dX4_fits_32 : decode cX4_fits 32 = .ok (.ishr, 1) := dk_122 (dk_at dksX4_fits_1 8 rfl rfl)
theorem dX4_fits_33 : decode cX4_fits 33 = .ok (.iconst 1, 1) := dk_4 (dk_at dksX4_fits_1 9 rfl rfl)
theorem dX4_fits_34 : decode cX4_fits 34 = .ok (.iand, 1) := dk_126 (dk_at dksX4_fits_1 10 rfl rfl)
theorem dX4_fits_35 : decode cX4_fits 35 = .ok (.iconst 1, 1) := dk_4 (dk_at dksX4_fits_1 11 rfl rfl)
theorem dX4_fits_36 : decode cX4_fits 36 = .ok (.if_icmp .ne 7, 3) := dk_160 0 7 (dk_at dksX4_fits_1 12 rfl rfl)
theorem dX4_fits_39 : decode cX4_fits 39 = .ok (.iconst 1, 1) := dk_4 (dk_at dksX4_fits_1 15 rfl rfl)
theorem dX4_fits_40 : decode cX4_fits 40 = .ok (.goto 4, 3) := dk_167 0 4 (dk_at dksX4_fits_1 16 rfl rfl)
theorem dX4_fits_43 : decode cX4_fits 43 = .ok (.iconst 0, 1) := dk_3 (dk_at dksX4_fits_1 19 rfl rfl)
theorem dX4_fits_44 : decode cX4_fits 44 = .ok (.ireturn, 1) := dk_172 (dk_at dksX4_fits_1 20 rfl rfl)
abbrev cX4_adds : ByteArray := prog_19_method_32_code
def yX4_adds : MethodName := ⟨RX4, "adds", "(II)V"⟩
def dkwX4_adds_1 : List UInt8 := [4, 96, 79, 42, 180, 0, 16, 28, 27, 79, 177]
abbrev dktX4_adds_1 : List UInt8 := dkwX4_adds_1 ++ []
def dkwX4_adds_0 : List UInt8 := [42, 180, 0, 65, 16, 30, 27, 104, 42, 180, 0, 62, 27, 46, 96, 28, 79, 42, 180, 0, 62, 27, 92, 46]
abbrev dktX4_adds_0 : List UInt8 := dkwX4_adds_0 ++ dktX4_adds_1
theorem dksX4_adds_0 : cX4_adds.data.toList.drop 0 = dktX4_adds_0 := by decide +kernel
theorem dksX4_adds_1 : cX4_adds.data.toList.drop 24 = dktX4_adds_1 := dk_seg dksX4_adds_0 24 rfl rfl
theorem dX4_adds_0 : decode cX4_adds 0 = .ok (.aload_n 0, 1) := dk_42 (dk_at dksX4_adds_0 0 rfl rfl)
theorem dX4_adds_1 : decode cX4_adds 1 = .ok (.getfield 65, 3) := dk_180 0 65 (dk_at dksX4_adds_0 1 rfl rfl)
theorem dX4_adds_4 : decode cX4_adds 4 = .ok (.bipush 30, 2) := dk_16 30 (dk_at dksX4_adds_0 4 rfl rfl)
theorem dX4_adds_6 : decode cX4_adds 6 = .ok (.iload_n 1, 1) := dk_27 (dk_at dksX4_adds_0 6 rfl rfl)
theorem dX4_adds_7 : decode cX4_adds 7 = .ok (.imul, 1) := dk_104 (dk_at dksX4_adds_0 7 rfl rfl)
theorem dX4_adds_8 : decode cX4_adds 8 = .ok (.aload_n 0, 1) := dk_42 (dk_at dksX4_adds_0 8 rfl rfl)
theorem dX4_adds_9 : decode cX4_adds 9 = .ok (.getfield 62, 3) := dk_180 0 62 (dk_at dksX4_adds_0 9 rfl rfl)
theorem dX4_adds_12 : decode cX4_adds 12 = .ok (.iload_n 1, 1) := dk_27 (dk_at dksX4_adds_0 12 rfl rfl)
theorem dX4_adds_13 : decode cX4_adds 13 = .ok (.iaload, 1) := dk_46 (dk_at dksX4_adds_0 13 rfl rfl)
theorem dX4_adds_14 : decode cX4_adds 14 = .ok (.iadd, 1) := dk_96 (dk_at dksX4_adds_0 14 rfl rfl)
theorem dX4_adds_15 : decode cX4_adds 15 = .ok (.iload_n 2, 1) := dk_28 (dk_at dksX4_adds_0 15 rfl rfl)
theorem dX4_adds_16 : decode cX4_adds 16 = .ok (.iastore, 1) := dk_79 (dk_at dksX4_adds_0 16 rfl rfl)
theorem dX4_adds_17 : decode cX4_adds 17 = .ok (.aload_n 0, 1) := dk_42 (dk_at dksX4_adds_0 17 rfl rfl)
theorem dX4_adds_18 : decode cX4_adds 18 = .ok (.getfield 62, 3) := dk_180 0 62 (dk_at dksX4_adds_0 18 rfl rfl)
theorem dX4_adds_21 : decode cX4_adds 21 = .ok (.iload_n 1, 1) := dk_27 (dk_at dksX4_adds_0 21 rfl rfl)
theorem dX4_adds_22 : decode cX4_adds 22 = .ok (.dup2, 1) := dk_92 (dk_at dksX4_adds_0 22 rfl rfl)
theorem dX4_adds_23 : decode cX4_adds 23 = .ok (.iaload, 1) := dk_46 (dk_at dksX4_adds_0 23 rfl rfl)
theorem dX4_adds_24 : decode cX4_adds 24 = .ok (.iconst 1, 1) := dk_4 (dk_at dksX4_adds_1 0 rfl rfl)
theorem dX4_adds_25 : decode cX4_adds 25 = .ok (.iadd, 1) := dk_96 (dk_at dksX4_adds_1 1 rfl rfl)
theorem dX4_adds_26 : decode cX4_adds 26 = .ok (.iastore, 1) := dk_79 (dk_at dksX4_adds_1 2 rfl rfl)
theorem dX4_adds_27 : decode cX4_adds 27 = .ok (.aload_n 0, 1) := dk_42 (dk_at dksX4_adds_1 3 rfl rfl)
theorem dX4_adds_28 : decode cX4_adds 28 = .ok (.getfield 16, 3) := dk_180 0 16 (dk_at dksX4_adds_1 4 rfl rfl)
theorem dX4_adds_31 : decode cX4_adds 31 = .ok (.iload_n 2, 1) := dk_28 (dk_at dksX4_adds_1 7 rfl rfl)
theorem dX4_adds_32 : decode cX4_adds 32 = .ok (.iload_n 1, 1) := dk_27 (dk_at dksX4_adds_1 8 rfl rfl)
theorem dX4_adds_33 : decode cX4_adds 33 = .ok (.iastore, 1) := dk_79 (dk_at dksX4_adds_1 9 rfl rfl)
theorem dX4_adds_34 : decode cX4_adds 34 = .ok (.return_, 1) := dk_177 (dk_at dksX4_adds_1 10 rfl rfl)
abbrev cX4_confirm : ByteArray := prog_19_method_34_code
def yX4_confirm : MethodName := ⟨RX4, "confirm", "(I)I"⟩
def dkwX4_confirm_3 : List UInt8 := [172]
abbrev dktX4_confirm_3 : List UInt8 := dkwX4_confirm_3 ++ []
def dkwX4_confirm_2 : List UInt8 := [3, 172, 42, 180, 0, 44, 27, 46, 61, 42, 180, 0, 47, 28, 5, 79, 42, 180, 0, 44, 27, 2, 79, 28]
abbrev dktX4_confirm_2 : List UInt8 := dkwX4_confirm_2 ++ dktX4_confirm_3
def dkwX4_confirm_1 : List UInt8 := [180, 0, 44, 27, 46, 2, 160, 0, 7, 5, 167, 0, 4, 3, 181, 0, 80, 42, 180, 0, 80, 158, 0, 5]
abbrev dktX4_confirm_1 : List UInt8 := dkwX4_confirm_1 ++ dktX4_confirm_2
def dkwX4_confirm_0 : List UInt8 := [42, 42, 27, 182, 0, 148, 154, 0, 7, 4, 167, 0, 27, 42, 180, 0, 40, 27, 51, 153, 0, 13, 42]
abbrev dktX4_confirm_0 : List UInt8 := dkwX4_confirm_0 ++ dktX4_confirm_1
theorem dksX4_confirm_0 : cX4_confirm.data.toList.drop 0 = dktX4_confirm_0 := by decide +kernel
theorem dksX4_confirm_1 : cX4_confirm.data.toList.drop 23 = dktX4_confirm_1 := dk_seg dksX4_confirm_0 23 rfl rfl
theorem dksX4_confirm_2 : cX4_confirm.data.toList.drop 47 = dktX4_confirm_2 := dk_seg dksX4_confirm_1 24 rfl rfl
theorem dksX4_confirm_3 : cX4_confirm.data.toList.drop 71 = dktX4_confirm_3 := dk_seg dksX4_confirm_2 24 rfl rfl
theorem dX4_confirm_0 : decode cX4_confirm 0 = .ok (.aload_n 0, 1) := dk_42 (dk_at dksX4_confirm_0 0 rfl rfl)
theorem dX4_confirm_1 : decode cX4_confirm 1 = .ok (.aload_n 0, 1) := dk_42 (dk_at dksX4_confirm_0 1 rfl rfl)
theorem dX4_confirm_2 : decode cX4_confirm 2 = .ok (.iload_n 1, 1) := dk_27 (dk_at dksX4_confirm_0 2 rfl rfl)
theorem dX4_confirm_3 : decode cX4_confirm 3 = .ok (.invokevirtual 148, 3) := dk_182 0 148 (dk_at dksX4_confirm_0 3 rfl rfl)
theorem dX4_confirm_6 : decode cX4_confirm 6 = .ok (.ifCond .ne 7, 3) := dk_154 0 7 (dk_at dksX4_confirm_0 6 rfl rfl)
theorem dX4_confirm_9 : decode cX4_confirm 9 = .ok (.iconst 1, 1) := dk_4 (dk_at dksX4_confirm_0 9 rfl rfl)
theorem dX4_confirm_10 : decode cX4_confirm 10 = .ok (.goto 27, 3) := dk_167 0 27 (dk_at dksX4_confirm_0 10 rfl rfl)
theorem dX4_confirm_13 : decode cX4_confirm 13 = .ok (.aload_n 0, 1) := dk_42 (dk_at dksX4_confirm_0 13 rfl rfl)
theorem dX4_confirm_14 : decode cX4_confirm 14 = .ok (.getfield 40, 3) := dk_180 0 40 (dk_at dksX4_confirm_0 14 rfl rfl)
theorem dX4_confirm_17 : decode cX4_confirm 17 = .ok (.iload_n 1, 1) := dk_27 (dk_at dksX4_confirm_0 17 rfl rfl)
theorem dX4_confirm_18 : decode cX4_confirm 18 = .ok (.baload, 1) := dk_51 (dk_at dksX4_confirm_0 18 rfl rfl)
theorem dX4_confirm_19 : decode cX4_confirm 19 = .ok (.ifCond .eq 13, 3) := dk_153 0 13 (dk_at dksX4_confirm_0 19 rfl rfl)
theorem dX4_confirm_22 : decode cX4_confirm 22 = .ok (.aload_n 0, 1) := dk_42 (dk_at dksX4_confirm_0 22 rfl rfl)
theorem dX4_confirm_23 : decode cX4_confirm 23 = .ok (.getfield 44, 3) := dk_180 0 44 (dk_at dksX4_confirm_1 0 rfl rfl)
theorem dX4_confirm_26 : decode cX4_confirm 26 = .ok (.iload_n 1, 1) := dk_27 (dk_at dksX4_confirm_1 3 rfl rfl)
theorem dX4_confirm_27 : decode cX4_confirm 27 = .ok (.iaload, 1) := dk_46 (dk_at dksX4_confirm_1 4 rfl rfl)
theorem dX4_confirm_28 : decode cX4_confirm 28 = .ok (.iconst (-1), 1) := dk_2 (dk_at dksX4_confirm_1 5 rfl rfl)
theorem dX4_confirm_29 : decode cX4_confirm 29 = .ok (.if_icmp .ne 7, 3) := dk_160 0 7 (dk_at dksX4_confirm_1 6 rfl rfl)
theorem dX4_confirm_32 : decode cX4_confirm 32 = .ok (.iconst 2, 1) := dk_5 (dk_at dksX4_confirm_1 9 rfl rfl)
theorem dX4_confirm_33 : decode cX4_confirm 33 = .ok (.goto 4, 3) := dk_167 0 4 (dk_at dksX4_confirm_1 10 rfl rfl)
theorem dX4_confirm_36 : decode cX4_confirm 36 = .ok (.iconst 0, 1) := dk_3 (dk_at dksX4_confirm_1 13 rfl rfl)
theorem dX4_confirm_37 : decode cX4_confirm 37 = .ok (.putfield 80, 3) := dk_181 0 80 (dk_at dksX4_confirm_1 14 rfl rfl)
theorem dX4_confirm_40 : decode cX4_confirm 40 = .ok (.aload_n 0, 1) := dk_42 (dk_at dksX4_confirm_1 17 rfl rfl)
theorem dX4_confirm_41 : decode cX4_confirm 41 = .ok (.getfield 80, 3) := dk_180 0 80 (dk_at dksX4_confirm_1 18 rfl rfl)
theorem dX4_confirm_44 : decode cX4_confirm 44 = .ok (.ifCond .le 5, 3) := dk_158 0 5 (dk_at dksX4_confirm_1 21 rfl rfl)
theorem dX4_confirm_47 : decode cX4_confirm 47 = .ok (.iconst 0, 1) := dk_3 (dk_at dksX4_confirm_2 0 rfl rfl)
theorem dX4_confirm_48 : decode cX4_confirm 48 = .ok (.ireturn, 1) := dk_172 (dk_at dksX4_confirm_2 1 rfl rfl)
theorem dX4_confirm_49 : decode cX4_confirm 49 = .ok (.aload_n 0, 1) := dk_42 (dk_at dksX4_confirm_2 2 rfl rfl)
theorem dX4_confirm_50 : decode cX4_confirm 50 = .ok (.getfield 44, 3) := dk_180 0 44 (dk_at dksX4_confirm_2 3 rfl rfl)
theorem dX4_confirm_53 : decode cX4_confirm 53 = .ok (.iload_n 1, 1) := dk_27 (dk_at dksX4_confirm_2 6 rfl rfl)
theorem dX4_confirm_54 : decode cX4_confirm 54 = .ok (.iaload, 1) := dk_46 (dk_at dksX4_confirm_2 7 rfl rfl)
theorem dX4_confirm_55 : decode cX4_confirm 55 = .ok (.istore_n 2, 1) := dk_61 (dk_at dksX4_confirm_2 8 rfl rfl)
theorem dX4_confirm_56 : decode cX4_confirm 56 = .ok (.aload_n 0, 1) := dk_42 (dk_at dksX4_confirm_2 9 rfl rfl)
theorem dX4_confirm_57 : decode cX4_confirm 57 = .ok (.getfield 47, 3) := dk_180 0 47 (dk_at dksX4_confirm_2 10 rfl rfl)
theorem dX4_confirm_60 : decode cX4_confirm 60 = .ok (.iload_n 2, 1) := dk_28 (dk_at dksX4_confirm_2 13 rfl rfl)
theorem dX4_confirm_61 : decode cX4_confirm 61 = .ok (.iconst 2, 1) := dk_5 (dk_at dksX4_confirm_2 14 rfl rfl)
theorem dX4_confirm_62 : decode cX4_confirm 62 = .ok (.iastore, 1) := dk_79 (dk_at dksX4_confirm_2 15 rfl rfl)
theorem dX4_confirm_63 : decode cX4_confirm 63 = .ok (.aload_n 0, 1) := dk_42 (dk_at dksX4_confirm_2 16 rfl rfl)
theorem dX4_confirm_64 : decode cX4_confirm 64 = .ok (.getfield 44, 3) := dk_180 0 44 (dk_at dksX4_confirm_2 17 rfl rfl)
theorem dX4_confirm_67 : decode cX4_confirm 67 = .ok (.iload_n 1, 1) := dk_27 (dk_at dksX4_confirm_2 20 rfl rfl)
theorem dX4_confirm_68 : decode cX4_confirm 68 = .ok (.iconst (-1), 1) := dk_2 (dk_at dksX4_confirm_2 21 rfl rfl)
theorem dX4_confirm_69 : decode cX4_confirm 69 = .ok (.iastore, 1) := dk_79 (dk_at dksX4_confirm_2 22 rfl rfl)
theorem dX4_confirm_70 : decode cX4_confirm 70 = .ok (.iload_n 2, 1) := dk_28 (dk_at dksX4_confirm_2 23 rfl rfl)
theorem dX4_confirm_71 : decode cX4_confirm 71 = .ok (.ireturn, 1) := dk_172 (dk_at dksX4_confirm_3 0 rfl rfl)
abbrev cX4_resume : ByteArray := prog_19_method_36_code
def yX4_resume : MethodName := ⟨RX4, "resume", "(II)I"⟩
def dkwX4_resume_4 : List UInt8 := [28, 3, 79, 42, 180, 0, 44, 27, 28, 79, 42, 180, 0, 62, 28, 46, 172]
abbrev dktX4_resume_4 : List UInt8 := dkwX4_resume_4 ++ []
def dkwX4_resume_3 : List UInt8 := [153, 0, 7, 3, 167, 0, 4, 5, 181, 0, 80, 42, 180, 0, 80, 158, 0, 5, 3, 172, 42, 180, 0, 47]
abbrev dktX4_resume_3 : List UInt8 := dkwX4_resume_3 ++ dktX4_resume_4
def dkwX4_resume_2 : List UInt8 := [27, 46, 2, 160, 0, 26, 42, 180, 0, 47, 28, 46, 4, 160, 0, 16, 42, 27, 28, 182, 0, 161]
abbrev dktX4_resume_2 : List UInt8 := dkwX4_resume_2 ++ dktX4_resume_3
def dkwX4_resume_1 : List UInt8 := [181, 0, 80, 42, 180, 0, 80, 154, 0, 50, 42, 42, 180, 0, 40, 27, 51, 153, 0, 36, 42, 180, 0, 44]
abbrev dktX4_resume_1 : List UInt8 := dkwX4_resume_1 ++ dktX4_resume_2
def dkwX4_resume_0 : List UInt8 := [42, 42, 27, 182, 0, 148, 153, 0, 15, 42, 28, 182, 0, 158, 153, 0, 7, 3, 167, 0, 4, 4]
abbrev dktX4_resume_0 : List UInt8 := dkwX4_resume_0 ++ dktX4_resume_1
theorem dksX4_resume_0 : cX4_resume.data.toList.drop 0 = dktX4_resume_0 := by decide +kernel
theorem dksX4_resume_1 : cX4_resume.data.toList.drop 22 = dktX4_resume_1 := dk_seg dksX4_resume_0 22 rfl rfl
theorem dksX4_resume_2 : cX4_resume.data.toList.drop 46 = dktX4_resume_2 := dk_seg dksX4_resume_1 24 rfl rfl
theorem dksX4_resume_3 : cX4_resume.data.toList.drop 68 = dktX4_resume_3 := dk_seg dksX4_resume_2 22 rfl rfl
theorem dksX4_resume_4 : cX4_resume.data.toList.drop 92 = dktX4_resume_4 := dk_seg dksX4_resume_3 24 rfl rfl
theorem dX4_resume_0 : decode cX4_resume 0 = .ok (.aload_n 0, 1) := dk_42 (dk_at dksX4_resume_0 0 rfl rfl)
theorem dX4_resume_1 : decode cX4_resume 1 = .ok (.aload_n 0, 1) := dk_42 (dk_at dksX4_resume_0 1 rfl rfl)
theorem dX4_resume_2 : decode cX4_resume 2 = .ok (.iload_n 1, 1) := dk_27 (dk_at dksX4_resume_0 2 rfl rfl)
theorem dX4_resume_3 : decode cX4_resume 3 = .ok (.invokevirtual 148, 3) := dk_182 0 148 (dk_at dksX4_resume_0 3 rfl rfl)
theorem dX4_resume_6 : decode cX4_resume 6 = .ok (.ifCond .eq 15, 3) := dk_153 0 15 (dk_at dksX4_resume_0 6 rfl rfl)
theorem dX4_resume_9 : decode cX4_resume 9 = .ok (.aload_n 0, 1) := dk_42 (dk_at dksX4_resume_0 9 rfl rfl)
theorem dX4_resume_10 : decode cX4_resume 10 = .ok (.iload_n 2, 1) := dk_28 (dk_at dksX4_resume_0 10 rfl rfl)
theorem dX4_resume_11 : decode cX4_resume 11 = .ok (.invokevirtual 158, 3) := dk_182 0 158 (dk_at dksX4_resume_0 11 rfl rfl)
theorem dX4_resume_14 : decode cX4_resume 14 = .ok (.ifCond .eq 7, 3) := dk_153 0 7 (dk_at dksX4_resume_0 14 rfl rfl)
theorem dX4_resume_17 : decode cX4_resume 17 = .ok (.iconst 0, 1) := dk_3 (dk_at dksX4_resume_0 17 rfl rfl)
theorem dX4_resume_18 : decode cX4_resume 18 = .ok (.goto 4, 3) := dk_167 0 4 (dk_at dksX4_resume_0 18 rfl rfl)
theorem dX4_resume_21 : decode cX4_resume 21 = .ok (.iconst 1, 1) := dk_4 (dk_at dksX4_resume_0 21 rfl rfl)
theorem dX4_resume_22 : decode cX4_resume 22 = .ok (.putfield 80, 3) := dk_181 0 80 (dk_at dksX4_resume_1 0 rfl rfl)
theorem dX4_resume_25 : decode cX4_resume 25 = .ok (.aload_n 0, 1) := dk_42 (dk_at dksX4_resume_1 3 rfl rfl)
theorem dX4_resume_26 : decode cX4_resume 26 = .ok (.getfield 80, 3) := dk_180 0 80 (dk_at dksX4_resume_1 4 rfl rfl)
theorem dX4_resume_29 : decode cX4_resume 29 = .ok (.ifCond .ne 50, 3) := dk_154 0 50 (dk_at dksX4_resume_1 7 rfl rfl)
theorem dX4_resume_32 : decode cX4_resume 32 = .ok (.aload_n 0, 1) := dk_42 (dk_at dksX4_resume_1 10 rfl rfl)
theorem dX4_resume_33 : decode cX4_resume 33 = .ok (.aload_n 0, 1) := dk_42 (dk_at dksX4_resume_1 11 rfl rfl)
theorem dX4_resume_34 : decode cX4_resume 34 = .ok (.getfield 40, 3) := dk_180 0 40 (dk_at dksX4_resume_1 12 rfl rfl)
theorem dX4_resume_37 : decode cX4_resume 37 = .ok (.iload_n 1, 1) := dk_27 (dk_at dksX4_resume_1 15 rfl rfl)
theorem dX4_resume_38 : decode cX4_resume 38 = .ok (.baload, 1) := dk_51 (dk_at dksX4_resume_1 16 rfl rfl)
theorem dX4_resume_39 : decode cX4_resume 39 = .ok (.ifCond .eq 36, 3) := dk_153 0 36 (dk_at dksX4_resume_1 17 rfl rfl)
theorem dX4_resume_42 : decode cX4_resume 42 = .ok (.aload_n 0, 1) := dk_42 (dk_at dksX4_resume_1 20 rfl rfl)
theorem dX4_resume_43 : decode cX4_resume 43 = .ok (.getfield 44, 3) := dk_180 0 44 (dk_at dksX4_resume_1 21 rfl rfl)
theorem dX4_resume_46 : decode cX4_resume 46 = .ok (.iload_n 1, 1) := dk_27 (dk_at dksX4_resume_2 0 rfl rfl)
theorem dX4_resume_47 : decode cX4_resume 47 = .ok (.iaload, 1) := dk_46 (dk_at dksX4_resume_2 1 rfl rfl)
theorem dX4_resume_48 : decode cX4_resume 48 = .ok (.iconst (-1), 1) := dk_2 (dk_at dksX4_resume_2 2 rfl rfl)
theorem dX4_resume_49 : decode cX4_resume 49 = .ok (.if_icmp .ne 26, 3) := dk_160 0 26 (dk_at dksX4_resume_2 3 rfl rfl)
theorem dX4_resume_52 : decode cX4_resume 52 = .ok (.aload_n 0, 1) := dk_42 (dk_at dksX4_resume_2 6 rfl rfl)
theorem dX4_resume_53 : decode cX4_resume 53 = .ok (.getfield 47, 3) := dk_180 0 47 (dk_at dksX4_resume_2 7 rfl rfl)
theorem dX4_resume_56 : decode cX4_resume 56 = .ok (.iload_n 2, 1) := dk_28 (dk_at dksX4_resume_2 10 rfl rfl)
theorem dX4_resume_57 : decode cX4_resume 57 = .ok (.iaload, 1) := dk_46 (dk_at dksX4_resume_2 11 rfl rfl)
theorem dX4_resume_58 : decode cX4_resume 58 = .ok (.iconst 1, 1) := dk_4 (dk_at dksX4_resume_2 12 rfl rfl)
theorem dX4_resume_59 : decode cX4_resume 59 = .ok (.if_icmp .ne 16, 3) := dk_160 0 16 (dk_at dksX4_resume_2 13 rfl rfl)
theorem dX4_resume_62 : decode cX4_resume 62 = .ok (.aload_n 0, 1) := dk_42 (dk_at dksX4_resume_2 16 rfl rfl)
theorem dX4_resume_63 : decode cX4_resume 63 = .ok (.iload_n 1, 1) := dk_27 (dk_at dksX4_resume_2 17 rfl rfl)
theorem dX4_resume_64 : decode cX4_resume 64 = .ok (.iload_n 2, 1) := dk_28 (dk_at dksX4_resume_2 18 rfl rfl)
theorem dX4_resume_65 : decode cX4_resume 65 = .ok (.invokevirtual 161, 3) := dk_182 0 161 (dk_at dksX4_resume_2 19 rfl rfl)
theorem dX4_resume_68 : decode cX4_resume 68 = .ok (.ifCond .eq 7, 3) := dk_153 0 7 (dk_at dksX4_resume_3 0 rfl rfl)
theorem dX4_resume_71 : decode cX4_resume 71 = .ok (.iconst 0, 1) := dk_3 (dk_at dksX4_resume_3 3 rfl rfl)
theorem dX4_resume_72 : decode cX4_resume 72 = .ok (.goto 4, 3) := dk_167 0 4 (dk_at dksX4_resume_3 4 rfl rfl)
theorem dX4_resume_75 : decode cX4_resume 75 = .ok (.iconst 2, 1) := dk_5 (dk_at dksX4_resume_3 7 rfl rfl)
theorem dX4_resume_76 : decode cX4_resume 76 = .ok (.putfield 80, 3) := dk_181 0 80 (dk_at dksX4_resume_3 8 rfl rfl)
theorem dX4_resume_79 : decode cX4_resume 79 = .ok (.aload_n 0, 1) := dk_42 (dk_at dksX4_resume_3 11 rfl rfl)
theorem dX4_resume_80 : decode cX4_resume 80 = .ok (.getfield 80, 3) := dk_180 0 80 (dk_at dksX4_resume_3 12 rfl rfl)
theorem dX4_resume_83 : decode cX4_resume 83 = .ok (.ifCond .le 5, 3) := dk_158 0 5 (dk_at dksX4_resume_3 15 rfl rfl)
theorem dX4_resume_86 : decode cX4_resume 86 = .ok (.iconst 0, 1) := dk_3 (dk_at dksX4_resume_3 18 rfl rfl)
theorem dX4_resume_87 : decode cX4_resume 87 = .ok (.ireturn, 1) := dk_172 (dk_at dksX4_resume_3 19 rfl rfl)
theorem dX4_resume_88 : decode cX4_resume 88 = .ok (.aload_n 0, 1) := dk_42 (dk_at dksX4_resume_3 20 rfl rfl)
theorem dX4_resume_89 : decode cX4_resume 89 = .ok (.getfield 47, 3) := dk_180 0 47 (dk_at dksX4_resume_3 21 rfl rfl)
theorem dX4_resume_92 : decode cX4_resume 92 = .ok (.iload_n 2, 1) := dk_28 (dk_at dksX4_resume_4 0 rfl rfl)
theorem dX4_resume_93 : decode cX4_resume 93 = .ok (.iconst 0, 1) := dk_3 (dk_at dksX4_resume_4 1 rfl rfl)
theorem dX4_resume_94 : decode cX4_resume 94 = .ok (.iastore, 1) := dk_79 (dk_at dksX4_resume_4 2 rfl rfl)
theorem dX4_resume_95 : decode cX4_resume 95 = .ok (.aload_n 0, 1) := dk_42 (dk_at dksX4_resume_4 3 rfl rfl)
theorem dX4_resume_96 : decode cX4_resume 96 = .ok (.getfield 44, 3) := dk_180 0 44 (dk_at dksX4_resume_4 4 rfl rfl)
theorem dX4_resume_99 : decode cX4_resume 99 = .ok (.iload_n 1, 1) := dk_27 (dk_at dksX4_resume_4 7 rfl rfl)
theorem dX4_resume_100 : decode cX4_resume 100 = .ok (.iload_n 2, 1) := dk_28 (dk_at dksX4_resume_4 8 rfl rfl)
theorem dX4_resume_101 : decode cX4_resume 101 = .ok (.iastore, 1) := dk_79 (dk_at dksX4_resume_4 9 rfl rfl)
theorem dX4_resume_102 : decode cX4_resume 102 = .ok (.aload_n 0, 1) := dk_42 (dk_at dksX4_resume_4 10 rfl rfl)
theorem dX4_resume_103 : decode cX4_resume 103 = .ok (.getfield 62, 3) := dk_180 0 62 (dk_at dksX4_resume_4 11 rfl rfl)
theorem dX4_resume_106 : decode cX4_resume 106 = .ok (.iload_n 2, 1) := dk_28 (dk_at dksX4_resume_4 14 rfl rfl)
theorem dX4_resume_107 : decode cX4_resume 107 = .ok (.iaload, 1) := dk_46 (dk_at dksX4_resume_4 15 rfl rfl)
theorem dX4_resume_108 : decode cX4_resume 108 = .ok (.ireturn, 1) := dk_172 (dk_at dksX4_resume_4 16 rfl rfl)
abbrev cX4_isBooking : ByteArray := prog_19_method_23_code
def yX4_isBooking : MethodName := ⟨RX4, "isBooking", "(I)Z"⟩
def dkwX4_isBooking_0 : List UInt8 := [27, 3, 42, 180, 0, 122, 4, 100, 184, 0, 84, 172]
abbrev dktX4_isBooking_0 : List UInt8 := dkwX4_isBooking_0 ++ []
theorem dksX4_isBooking_0 : cX4_isBooking.data.toList.drop 0 = dktX4_isBooking_0 := by decide +kernel
theorem dX4_isBooking_0 : decode cX4_isBooking 0 = .ok (.iload_n 1, 1) := dk_27 (dk_at dksX4_isBooking_0 0 rfl rfl)
theorem dX4_isBooking_1 : decode cX4_isBooking 1 = .ok (.iconst 0, 1) := dk_3 (dk_at dksX4_isBooking_0 1 rfl rfl)
theorem dX4_isBooking_2 : decode cX4_isBooking 2 = .ok (.aload_n 0, 1) := dk_42 (dk_at dksX4_isBooking_0 2 rfl rfl)
theorem dX4_isBooking_3 : decode cX4_isBooking 3 = .ok (.getfield 122, 3) := dk_180 0 122 (dk_at dksX4_isBooking_0 3 rfl rfl)
theorem dX4_isBooking_6 : decode cX4_isBooking 6 = .ok (.iconst 1, 1) := dk_4 (dk_at dksX4_isBooking_0 6 rfl rfl)
theorem dX4_isBooking_7 : decode cX4_isBooking 7 = .ok (.isub, 1) := dk_100 (dk_at dksX4_isBooking_0 7 rfl rfl)
theorem dX4_isBooking_8 : decode cX4_isBooking 8 = .ok (.invokestatic 84, 3) := dk_184 0 84 (dk_at dksX4_isBooking_0 8 rfl rfl)
theorem dX4_isBooking_11 : decode cX4_isBooking 11 = .ok (.ireturn, 1) := dk_172 (dk_at dksX4_isBooking_0 11 rfl rfl)
abbrev cX4_isOf : ByteArray := prog_19_method_35_code
def yX4_isOf : MethodName := ⟨RX4, "isOf", "(II)Z"⟩
def dkwX4_isOf_1 : List UInt8 := [180, 0, 37, 27, 46, 160, 0, 7, 4, 167, 0, 4, 3, 172]
abbrev dktX4_isOf_1 : List UInt8 := dkwX4_isOf_1 ++ []
def dkwX4_isOf_0 : List UInt8 := [42, 180, 0, 53, 28, 46, 42, 180, 0, 34, 27, 46, 160, 0, 22, 42, 180, 0, 56, 28, 46, 42]
abbrev dktX4_isOf_0 : List UInt8 := dkwX4_isOf_0 ++ dktX4_isOf_1
theorem dksX4_isOf_0 : cX4_isOf.data.toList.drop 0 = dktX4_isOf_0 := by decide +kernel
theorem dksX4_isOf_1 : cX4_isOf.data.toList.drop 22 = dktX4_isOf_1 := dk_seg dksX4_isOf_0 22 rfl rfl
theorem dX4_isOf_0 : decode cX4_isOf 0 = .ok (.aload_n 0, 1) := dk_42 (dk_at dksX4_isOf_0 0 rfl rfl)
theorem dX4_isOf_1 : decode cX4_isOf 1 = .ok (.getfield 53, 3) := dk_180 0 53 (dk_at dksX4_isOf_0 1 rfl rfl)
theorem dX4_isOf_4 : decode cX4_isOf 4 = .ok (.iload_n 2, 1) := dk_28 (dk_at dksX4_isOf_0 4 rfl rfl)
theorem dX4_isOf_5 : decode cX4_isOf 5 = .ok (.iaload, 1) := dk_46 (dk_at dksX4_isOf_0 5 rfl rfl)
theorem dX4_isOf_6 : decode cX4_isOf 6 = .ok (.aload_n 0, 1) := dk_42 (dk_at dksX4_isOf_0 6 rfl rfl)
theorem dX4_isOf_7 : decode cX4_isOf 7 = .ok (.getfield 34, 3) := dk_180 0 34 (dk_at dksX4_isOf_0 7 rfl rfl)
theorem dX4_isOf_10 : decode cX4_isOf 10 = .ok (.iload_n 1, 1) := dk_27 (dk_at dksX4_isOf_0 10 rfl rfl)
theorem dX4_isOf_11 : decode cX4_isOf 11 = .ok (.iaload, 1) := dk_46 (dk_at dksX4_isOf_0 11 rfl rfl)
theorem dX4_isOf_12 : decode cX4_isOf 12 = .ok (.if_icmp .ne 22, 3) := dk_160 0 22 (dk_at dksX4_isOf_0 12 rfl rfl)
theorem dX4_isOf_15 : decode cX4_isOf 15 = .ok (.aload_n 0, 1) := dk_42 (dk_at dksX4_isOf_0 15 rfl rfl)
theorem dX4_isOf_16 : decode cX4_isOf 16 = .ok (.getfield 56, 3) := dk_180 0 56 (dk_at dksX4_isOf_0 16 rfl rfl)
theorem dX4_isOf_19 : decode cX4_isOf 19 = .ok (.iload_n 2, 1) := dk_28 (dk_at dksX4_isOf_0 19 rfl rfl)
theorem dX4_isOf_20 : decode cX4_isOf 20 = .ok (.iaload, 1) := dk_46 (dk_at dksX4_isOf_0 20 rfl rfl)
theorem dX4_isOf_21 : decode cX4_isOf 21 = .ok (.aload_n 0, 1) := dk_42 (dk_at dksX4_isOf_0 21 rfl rfl)
theorem dX4_isOf_22 : decode cX4_isOf 22 = .ok (.getfield 37, 3) := dk_180 0 37 (dk_at dksX4_isOf_1 0 rfl rfl)
theorem dX4_isOf_25 : decode cX4_isOf 25 = .ok (.iload_n 1, 1) := dk_27 (dk_at dksX4_isOf_1 3 rfl rfl)
theorem dX4_isOf_26 : decode cX4_isOf 26 = .ok (.iaload, 1) := dk_46 (dk_at dksX4_isOf_1 4 rfl rfl)
theorem dX4_isOf_27 : decode cX4_isOf 27 = .ok (.if_icmp .ne 7, 3) := dk_160 0 7 (dk_at dksX4_isOf_1 5 rfl rfl)
theorem dX4_isOf_30 : decode cX4_isOf 30 = .ok (.iconst 1, 1) := dk_4 (dk_at dksX4_isOf_1 8 rfl rfl)
theorem dX4_isOf_31 : decode cX4_isOf 31 = .ok (.goto 4, 3) := dk_167 0 4 (dk_at dksX4_isOf_1 9 rfl rfl)
theorem dX4_isOf_34 : decode cX4_isOf 34 = .ok (.iconst 0, 1) := dk_3 (dk_at dksX4_isOf_1 12 rfl rfl)
theorem dX4_isOf_35 : decode cX4_isOf 35 = .ok (.ireturn, 1) := dk_172 (dk_at dksX4_isOf_1 13 rfl rfl)
abbrev cX4_cancel : ByteArray := prog_19_method_37_code
def yX4_cancel : MethodName := ⟨RX4, "cancel", "(II)I"⟩
def dkwX4_cancel_3 : List UInt8 := [180, 0, 80, 158, 0, 5, 3, 172, 42, 180, 0, 47, 28, 8, 79, 42, 180, 0, 62, 28, 46, 172]
abbrev dktX4_cancel_3 : List UInt8 := dkwX4_cancel_3 ++ []
def dkwX4_cancel_2 : List UInt8 := [28, 46, 5, 160, 0, 16, 42, 27, 28, 182, 0, 161, 153, 0, 7, 3, 167, 0, 4, 5, 181, 0, 80, 42]
abbrev dktX4_cancel_2 : List UInt8 := dkwX4_cancel_2 ++ dktX4_cancel_3
def dkwX4_cancel_1 : List UInt8 := [181, 0, 80, 42, 180, 0, 80, 154, 0, 40, 42, 42, 180, 0, 40, 27, 51, 153, 0, 26, 42, 180, 0, 47]
abbrev dktX4_cancel_1 : List UInt8 := dkwX4_cancel_1 ++ dktX4_cancel_2
def dkwX4_cancel_0 : List UInt8 := [42, 42, 27, 182, 0, 148, 153, 0, 15, 42, 28, 182, 0, 158, 153, 0, 7, 3, 167, 0, 4, 4]
abbrev dktX4_cancel_0 : List UInt8 := dkwX4_cancel_0 ++ dktX4_cancel_1
theorem dksX4_cancel_0 : cX4_cancel.data.toList.drop 0 = dktX4_cancel_0 := by decide +kernel
theorem dksX4_cancel_1 : cX4_cancel.data.toList.drop 22 = dktX4_cancel_1 := dk_seg dksX4_cancel_0 22 rfl rfl
theorem dksX4_cancel_2 : cX4_cancel.data.toList.drop 46 = dktX4_cancel_2 := dk_seg dksX4_cancel_1 24 rfl rfl
theorem dksX4_cancel_3 : cX4_cancel.data.toList.drop 70 = dktX4_cancel_3 := dk_seg dksX4_cancel_2 24 rfl rfl
theorem dX4_cancel_0 : decode cX4_cancel 0 = .ok (.aload_n 0, 1) := dk_42 (dk_at dksX4_cancel_0 0 rfl rfl)
theorem dX4_cancel_1 : decode cX4_cancel 1 = .ok (.aload_n 0, 1) := dk_42 (dk_at dksX4_cancel_0 1 rfl rfl)
theorem dX4_cancel_2 : decode cX4_cancel 2 = .ok (.iload_n 1, 1) := dk_27 (dk_at dksX4_cancel_0 2 rfl rfl)
theorem dX4_cancel_3 : decode cX4_cancel 3 = .ok (.invokevirtual 148, 3) := dk_182 0 148 (dk_at dksX4_cancel_0 3 rfl rfl)
theorem dX4_cancel_6 : decode cX4_cancel 6 = .ok (.ifCond .eq 15, 3) := dk_153 0 15 (dk_at dksX4_cancel_0 6 rfl rfl)
theorem dX4_cancel_9 : decode cX4_cancel 9 = .ok (.aload_n 0, 1) := dk_42 (dk_at dksX4_cancel_0 9 rfl rfl)
theorem dX4_cancel_10 : decode cX4_cancel 10 = .ok (.iload_n 2, 1) := dk_28 (dk_at dksX4_cancel_0 10 rfl rfl)
theorem dX4_cancel_11 : decode cX4_cancel 11 = .ok (.invokevirtual 158, 3) := dk_182 0 158 (dk_at dksX4_cancel_0 11 rfl rfl)
theorem dX4_cancel_14 : decode cX4_cancel 14 = .ok (.ifCond .eq 7, 3) := dk_153 0 7 (dk_at dksX4_cancel_0 14 rfl rfl)
theorem dX4_cancel_17 : decode cX4_cancel 17 = .ok (.iconst 0, 1) := dk_3 (dk_at dksX4_cancel_0 17 rfl rfl)
theorem dX4_cancel_18 : decode cX4_cancel 18 = .ok (.goto 4, 3) := dk_167 0 4 (dk_at dksX4_cancel_0 18 rfl rfl)
theorem dX4_cancel_21 : decode cX4_cancel 21 = .ok (.iconst 1, 1) := dk_4 (dk_at dksX4_cancel_0 21 rfl rfl)
theorem dX4_cancel_22 : decode cX4_cancel 22 = .ok (.putfield 80, 3) := dk_181 0 80 (dk_at dksX4_cancel_1 0 rfl rfl)
theorem dX4_cancel_25 : decode cX4_cancel 25 = .ok (.aload_n 0, 1) := dk_42 (dk_at dksX4_cancel_1 3 rfl rfl)
theorem dX4_cancel_26 : decode cX4_cancel 26 = .ok (.getfield 80, 3) := dk_180 0 80 (dk_at dksX4_cancel_1 4 rfl rfl)
theorem dX4_cancel_29 : decode cX4_cancel 29 = .ok (.ifCond .ne 40, 3) := dk_154 0 40 (dk_at dksX4_cancel_1 7 rfl rfl)
theorem dX4_cancel_32 : decode cX4_cancel 32 = .ok (.aload_n 0, 1) := dk_42 (dk_at dksX4_cancel_1 10 rfl rfl)
theorem dX4_cancel_33 : decode cX4_cancel 33 = .ok (.aload_n 0, 1) := dk_42 (dk_at dksX4_cancel_1 11 rfl rfl)
theorem dX4_cancel_34 : decode cX4_cancel 34 = .ok (.getfield 40, 3) := dk_180 0 40 (dk_at dksX4_cancel_1 12 rfl rfl)
theorem dX4_cancel_37 : decode cX4_cancel 37 = .ok (.iload_n 1, 1) := dk_27 (dk_at dksX4_cancel_1 15 rfl rfl)
theorem dX4_cancel_38 : decode cX4_cancel 38 = .ok (.baload, 1) := dk_51 (dk_at dksX4_cancel_1 16 rfl rfl)
theorem dX4_cancel_39 : decode cX4_cancel 39 = .ok (.ifCond .eq 26, 3) := dk_153 0 26 (dk_at dksX4_cancel_1 17 rfl rfl)
theorem dX4_cancel_42 : decode cX4_cancel 42 = .ok (.aload_n 0, 1) := dk_42 (dk_at dksX4_cancel_1 20 rfl rfl)
theorem dX4_cancel_43 : decode cX4_cancel 43 = .ok (.getfield 47, 3) := dk_180 0 47 (dk_at dksX4_cancel_1 21 rfl rfl)
theorem dX4_cancel_46 : decode cX4_cancel 46 = .ok (.iload_n 2, 1) := dk_28 (dk_at dksX4_cancel_2 0 rfl rfl)
theorem dX4_cancel_47 : decode cX4_cancel 47 = .ok (.iaload, 1) := dk_46 (dk_at dksX4_cancel_2 1 rfl rfl)
theorem dX4_cancel_48 : decode cX4_cancel 48 = .ok (.iconst 2, 1) := dk_5 (dk_at dksX4_cancel_2 2 rfl rfl)
theorem dX4_cancel_49 : decode cX4_cancel 49 = .ok (.if_icmp .ne 16, 3) := dk_160 0 16 (dk_at dksX4_cancel_2 3 rfl rfl)
theorem dX4_cancel_52 : decode cX4_cancel 52 = .ok (.aload_n 0, 1) := dk_42 (dk_at dksX4_cancel_2 6 rfl rfl)
theorem dX4_cancel_53 : decode cX4_cancel 53 = .ok (.iload_n 1, 1) := dk_27 (dk_at dksX4_cancel_2 7 rfl rfl)
theorem dX4_cancel_54 : decode cX4_cancel 54 = .ok (.iload_n 2, 1) := dk_28 (dk_at dksX4_cancel_2 8 rfl rfl)
theorem dX4_cancel_55 : decode cX4_cancel 55 = .ok (.invokevirtual 161, 3) := dk_182 0 161 (dk_at dksX4_cancel_2 9 rfl rfl)
theorem dX4_cancel_58 : decode cX4_cancel 58 = .ok (.ifCond .eq 7, 3) := dk_153 0 7 (dk_at dksX4_cancel_2 12 rfl rfl)
theorem dX4_cancel_61 : decode cX4_cancel 61 = .ok (.iconst 0, 1) := dk_3 (dk_at dksX4_cancel_2 15 rfl rfl)
theorem dX4_cancel_62 : decode cX4_cancel 62 = .ok (.goto 4, 3) := dk_167 0 4 (dk_at dksX4_cancel_2 16 rfl rfl)
theorem dX4_cancel_65 : decode cX4_cancel 65 = .ok (.iconst 2, 1) := dk_5 (dk_at dksX4_cancel_2 19 rfl rfl)
theorem dX4_cancel_66 : decode cX4_cancel 66 = .ok (.putfield 80, 3) := dk_181 0 80 (dk_at dksX4_cancel_2 20 rfl rfl)
theorem dX4_cancel_69 : decode cX4_cancel 69 = .ok (.aload_n 0, 1) := dk_42 (dk_at dksX4_cancel_2 23 rfl rfl)
theorem dX4_cancel_70 : decode cX4_cancel 70 = .ok (.getfield 80, 3) := dk_180 0 80 (dk_at dksX4_cancel_3 0 rfl rfl)
theorem dX4_cancel_73 : decode cX4_cancel 73 = .ok (.ifCond .le 5, 3) := dk_158 0 5 (dk_at dksX4_cancel_3 3 rfl rfl)
theorem dX4_cancel_76 : decode cX4_cancel 76 = .ok (.iconst 0, 1) := dk_3 (dk_at dksX4_cancel_3 6 rfl rfl)
theorem dX4_cancel_77 : decode cX4_cancel 77 = .ok (.ireturn, 1) := dk_172 (dk_at dksX4_cancel_3 7 rfl rfl)
theorem dX4_cancel_78 : decode cX4_cancel 78 = .ok (.aload_n 0, 1) := dk_42 (dk_at dksX4_cancel_3 8 rfl rfl)
theorem dX4_cancel_79 : decode cX4_cancel 79 = .ok (.getfield 47, 3) := dk_180 0 47 (dk_at dksX4_cancel_3 9 rfl rfl)
theorem dX4_cancel_82 : decode cX4_cancel 82 = .ok (.iload_n 2, 1) := dk_28 (dk_at dksX4_cancel_3 12 rfl rfl)
theorem dX4_cancel_83 : decode cX4_cancel 83 = .ok (.iconst 5, 1) := dk_8 (dk_at dksX4_cancel_3 13 rfl rfl)
theorem dX4_cancel_84 : decode cX4_cancel 84 = .ok (.iastore, 1) := dk_79 (dk_at dksX4_cancel_3 14 rfl rfl)
theorem dX4_cancel_85 : decode cX4_cancel 85 = .ok (.aload_n 0, 1) := dk_42 (dk_at dksX4_cancel_3 15 rfl rfl)
theorem dX4_cancel_86 : decode cX4_cancel 86 = .ok (.getfield 62, 3) := dk_180 0 62 (dk_at dksX4_cancel_3 16 rfl rfl)
theorem dX4_cancel_89 : decode cX4_cancel 89 = .ok (.iload_n 2, 1) := dk_28 (dk_at dksX4_cancel_3 19 rfl rfl)
theorem dX4_cancel_90 : decode cX4_cancel 90 = .ok (.iaload, 1) := dk_46 (dk_at dksX4_cancel_3 20 rfl rfl)
theorem dX4_cancel_91 : decode cX4_cancel 91 = .ok (.ireturn, 1) := dk_172 (dk_at dksX4_cancel_3 21 rfl rfl)
abbrev cX4_hangUp : ByteArray := prog_19_method_39_code
def yX4_hangUp : MethodName := ⟨RX4, "hangUp", "(I)I"⟩
def dkwX4_hangUp_3 : List UInt8 := [28, 46, 172]
abbrev dktX4_hangUp_3 : List UInt8 := dkwX4_hangUp_3 ++ []
def dkwX4_hangUp_2 : List UInt8 := [180, 0, 44, 27, 46, 61, 28, 2, 160, 0, 5, 3, 172, 42, 180, 0, 47, 28, 8, 79, 42, 180, 0, 62]
abbrev dktX4_hangUp_2 : List UInt8 := dkwX4_hangUp_2 ++ dktX4_hangUp_3
def dkwX4_hangUp_1 : List UInt8 := [167, 0, 4, 5, 181, 0, 80, 42, 180, 0, 80, 158, 0, 5, 3, 172, 42, 27, 182, 0, 164, 42]
abbrev dktX4_hangUp_1 : List UInt8 := dkwX4_hangUp_1 ++ dktX4_hangUp_2
def dkwX4_hangUp_0 : List UInt8 := [42, 42, 27, 182, 0, 148, 154, 0, 7, 4, 167, 0, 17, 42, 180, 0, 40, 27, 51, 153, 0, 7, 3]
abbrev dktX4_hangUp_0 : List UInt8 := dkwX4_hangUp_0 ++ dktX4_hangUp_1
theorem dksX4_hangUp_0 : cX4_hangUp.data.toList.drop 0 = dktX4_hangUp_0 := by decide +kernel
theorem dksX4_hangUp_1 : cX4_hangUp.data.toList.drop 23 = dktX4_hangUp_1 := dk_seg dksX4_hangUp_0 23 rfl rfl
theorem dksX4_hangUp_2 : cX4_hangUp.data.toList.drop 45 = dktX4_hangUp_2 := dk_seg dksX4_hangUp_1 22 rfl rfl
theorem dksX4_hangUp_3 : cX4_hangUp.data.toList.drop 69 = dktX4_hangUp_3 := dk_seg dksX4_hangUp_2 24 rfl rfl
theorem dX4_hangUp_0 : decode cX4_hangUp 0 = .ok (.aload_n 0, 1) := dk_42 (dk_at dksX4_hangUp_0 0 rfl rfl)
theorem dX4_hangUp_1 : decode cX4_hangUp 1 = .ok (.aload_n 0, 1) := dk_42 (dk_at dksX4_hangUp_0 1 rfl rfl)
theorem dX4_hangUp_2 : decode cX4_hangUp 2 = .ok (.iload_n 1, 1) := dk_27 (dk_at dksX4_hangUp_0 2 rfl rfl)
theorem dX4_hangUp_3 : decode cX4_hangUp 3 = .ok (.invokevirtual 148, 3) := dk_182 0 148 (dk_at dksX4_hangUp_0 3 rfl rfl)
theorem dX4_hangUp_6 : decode cX4_hangUp 6 = .ok (.ifCond .ne 7, 3) := dk_154 0 7 (dk_at dksX4_hangUp_0 6 rfl rfl)
theorem dX4_hangUp_9 : decode cX4_hangUp 9 = .ok (.iconst 1, 1) := dk_4 (dk_at dksX4_hangUp_0 9 rfl rfl)
theorem dX4_hangUp_10 : decode cX4_hangUp 10 = .ok (.goto 17, 3) := dk_167 0 17 (dk_at dksX4_hangUp_0 10 rfl rfl)
theorem dX4_hangUp_13 : decode cX4_hangUp 13 = .ok (.aload_n 0, 1) := dk_42 (dk_at dksX4_hangUp_0 13 rfl rfl)
theorem dX4_hangUp_14 : decode cX4_hangUp 14 = .ok (.getfield 40, 3) := dk_180 0 40 (dk_at dksX4_hangUp_0 14 rfl rfl)
theorem dX4_hangUp_17 : decode cX4_hangUp 17 = .ok (.iload_n 1, 1) := dk_27 (dk_at dksX4_hangUp_0 17 rfl rfl)
theorem dX4_hangUp_18 : decode cX4_hangUp 18 = .ok (.baload, 1) := dk_51 (dk_at dksX4_hangUp_0 18 rfl rfl)
theorem dX4_hangUp_19 : decode cX4_hangUp 19 = .ok (.ifCond .eq 7, 3) := dk_153 0 7 (dk_at dksX4_hangUp_0 19 rfl rfl)
theorem dX4_hangUp_22 : decode cX4_hangUp 22 = .ok (.iconst 0, 1) := dk_3 (dk_at dksX4_hangUp_0 22 rfl rfl)
theorem dX4_hangUp_23 : decode cX4_hangUp 23 = .ok (.goto 4, 3) := dk_167 0 4 (dk_at dksX4_hangUp_1 0 rfl rfl)
theorem dX4_hangUp_26 : decode cX4_hangUp 26 = .ok (.iconst 2, 1) := dk_5 (dk_at dksX4_hangUp_1 3 rfl rfl)
theorem dX4_hangUp_27 : decode cX4_hangUp 27 = .ok (.putfield 80, 3) := dk_181 0 80 (dk_at dksX4_hangUp_1 4 rfl rfl)
theorem dX4_hangUp_30 : decode cX4_hangUp 30 = .ok (.aload_n 0, 1) := dk_42 (dk_at dksX4_hangUp_1 7 rfl rfl)
theorem dX4_hangUp_31 : decode cX4_hangUp 31 = .ok (.getfield 80, 3) := dk_180 0 80 (dk_at dksX4_hangUp_1 8 rfl rfl)
theorem dX4_hangUp_34 : decode cX4_hangUp 34 = .ok (.ifCond .le 5, 3) := dk_158 0 5 (dk_at dksX4_hangUp_1 11 rfl rfl)
theorem dX4_hangUp_37 : decode cX4_hangUp 37 = .ok (.iconst 0, 1) := dk_3 (dk_at dksX4_hangUp_1 14 rfl rfl)
theorem dX4_hangUp_38 : decode cX4_hangUp 38 = .ok (.ireturn, 1) := dk_172 (dk_at dksX4_hangUp_1 15 rfl rfl)
theorem dX4_hangUp_39 : decode cX4_hangUp 39 = .ok (.aload_n 0, 1) := dk_42 (dk_at dksX4_hangUp_1 16 rfl rfl)
theorem dX4_hangUp_40 : decode cX4_hangUp 40 = .ok (.iload_n 1, 1) := dk_27 (dk_at dksX4_hangUp_1 17 rfl rfl)
theorem dX4_hangUp_41 : decode cX4_hangUp 41 = .ok (.invokevirtual 164, 3) := dk_182 0 164 (dk_at dksX4_hangUp_1 18 rfl rfl)
theorem dX4_hangUp_44 : decode cX4_hangUp 44 = .ok (.aload_n 0, 1) := dk_42 (dk_at dksX4_hangUp_1 21 rfl rfl)
theorem dX4_hangUp_45 : decode cX4_hangUp 45 = .ok (.getfield 44, 3) := dk_180 0 44 (dk_at dksX4_hangUp_2 0 rfl rfl)
theorem dX4_hangUp_48 : decode cX4_hangUp 48 = .ok (.iload_n 1, 1) := dk_27 (dk_at dksX4_hangUp_2 3 rfl rfl)
theorem dX4_hangUp_49 : decode cX4_hangUp 49 = .ok (.iaload, 1) := dk_46 (dk_at dksX4_hangUp_2 4 rfl rfl)
theorem dX4_hangUp_50 : decode cX4_hangUp 50 = .ok (.istore_n 2, 1) := dk_61 (dk_at dksX4_hangUp_2 5 rfl rfl)
theorem dX4_hangUp_51 : decode cX4_hangUp 51 = .ok (.iload_n 2, 1) := dk_28 (dk_at dksX4_hangUp_2 6 rfl rfl)
theorem dX4_hangUp_52 : decode cX4_hangUp 52 = .ok (.iconst (-1), 1) := dk_2 (dk_at dksX4_hangUp_2 7 rfl rfl)
theorem dX4_hangUp_53 : decode cX4_hangUp 53 = .ok (.if_icmp .ne 5, 3) := dk_160 0 5 (dk_at dksX4_hangUp_2 8 rfl rfl)
theorem dX4_hangUp_56 : decode cX4_hangUp 56 = .ok (.iconst 0, 1) := dk_3 (dk_at dksX4_hangUp_2 11 rfl rfl)
theorem dX4_hangUp_57 : decode cX4_hangUp 57 = .ok (.ireturn, 1) := dk_172 (dk_at dksX4_hangUp_2 12 rfl rfl)
theorem dX4_hangUp_58 : decode cX4_hangUp 58 = .ok (.aload_n 0, 1) := dk_42 (dk_at dksX4_hangUp_2 13 rfl rfl)
theorem dX4_hangUp_59 : decode cX4_hangUp 59 = .ok (.getfield 47, 3) := dk_180 0 47 (dk_at dksX4_hangUp_2 14 rfl rfl)
theorem dX4_hangUp_62 : decode cX4_hangUp 62 = .ok (.iload_n 2, 1) := dk_28 (dk_at dksX4_hangUp_2 17 rfl rfl)
theorem dX4_hangUp_63 : decode cX4_hangUp 63 = .ok (.iconst 5, 1) := dk_8 (dk_at dksX4_hangUp_2 18 rfl rfl)
theorem dX4_hangUp_64 : decode cX4_hangUp 64 = .ok (.iastore, 1) := dk_79 (dk_at dksX4_hangUp_2 19 rfl rfl)
theorem dX4_hangUp_65 : decode cX4_hangUp 65 = .ok (.aload_n 0, 1) := dk_42 (dk_at dksX4_hangUp_2 20 rfl rfl)
theorem dX4_hangUp_66 : decode cX4_hangUp 66 = .ok (.getfield 62, 3) := dk_180 0 62 (dk_at dksX4_hangUp_2 21 rfl rfl)
theorem dX4_hangUp_69 : decode cX4_hangUp 69 = .ok (.iload_n 2, 1) := dk_28 (dk_at dksX4_hangUp_3 0 rfl rfl)
theorem dX4_hangUp_70 : decode cX4_hangUp 70 = .ok (.iaload, 1) := dk_46 (dk_at dksX4_hangUp_3 1 rfl rfl)
theorem dX4_hangUp_71 : decode cX4_hangUp 71 = .ok (.ireturn, 1) := dk_172 (dk_at dksX4_hangUp_3 2 rfl rfl)
abbrev cX4_ends : ByteArray := prog_19_method_38_code
def yX4_ends : MethodName := ⟨RX4, "ends", "(I)V"⟩
def dkwX4_ends_1 : List UInt8 := [28, 46, 27, 160, 0, 7, 2, 167, 0, 9, 42, 180, 0, 28, 28, 46, 79, 132, 2, 1, 167, 255, 221, 177]
abbrev dktX4_ends_1 : List UInt8 := dkwX4_ends_1 ++ []
def dkwX4_ends_0 : List UInt8 := [42, 180, 0, 40, 27, 3, 84, 3, 61, 28, 16, 6, 162, 0, 35, 42, 180, 0, 28, 28, 42, 180, 0, 28]
abbrev dktX4_ends_0 : List UInt8 := dkwX4_ends_0 ++ dktX4_ends_1
theorem dksX4_ends_0 : cX4_ends.data.toList.drop 0 = dktX4_ends_0 := by decide +kernel
theorem dksX4_ends_1 : cX4_ends.data.toList.drop 24 = dktX4_ends_1 := dk_seg dksX4_ends_0 24 rfl rfl
theorem dX4_ends_0 : decode cX4_ends 0 = .ok (.aload_n 0, 1) := dk_42 (dk_at dksX4_ends_0 0 rfl rfl)
theorem dX4_ends_1 : decode cX4_ends 1 = .ok (.getfield 40, 3) := dk_180 0 40 (dk_at dksX4_ends_0 1 rfl rfl)
theorem dX4_ends_4 : decode cX4_ends 4 = .ok (.iload_n 1, 1) := dk_27 (dk_at dksX4_ends_0 4 rfl rfl)
theorem dX4_ends_5 : decode cX4_ends 5 = .ok (.iconst 0, 1) := dk_3 (dk_at dksX4_ends_0 5 rfl rfl)
theorem dX4_ends_6 : decode cX4_ends 6 = .ok (.bastore, 1) := dk_84 (dk_at dksX4_ends_0 6 rfl rfl)
theorem dX4_ends_7 : decode cX4_ends 7 = .ok (.iconst 0, 1) := dk_3 (dk_at dksX4_ends_0 7 rfl rfl)
theorem dX4_ends_8 : decode cX4_ends 8 = .ok (.istore_n 2, 1) := dk_61 (dk_at dksX4_ends_0 8 rfl rfl)
theorem dX4_ends_9 : decode cX4_ends 9 = .ok (.iload_n 2, 1) := dk_28 (dk_at dksX4_ends_0 9 rfl rfl)
theorem dX4_ends_10 : decode cX4_ends 10 = .ok (.bipush 6, 2) := dk_16 6 (dk_at dksX4_ends_0 10 rfl rfl)
theorem dX4_ends_12 : decode cX4_ends 12 = .ok (.if_icmp .ge 35, 3) := dk_162 0 35 (dk_at dksX4_ends_0 12 rfl rfl)
theorem dX4_ends_15 : decode cX4_ends 15 = .ok (.aload_n 0, 1) := dk_42 (dk_at dksX4_ends_0 15 rfl rfl)
theorem dX4_ends_16 : decode cX4_ends 16 = .ok (.getfield 28, 3) := dk_180 0 28 (dk_at dksX4_ends_0 16 rfl rfl)
theorem dX4_ends_19 : decode cX4_ends 19 = .ok (.iload_n 2, 1) := dk_28 (dk_at dksX4_ends_0 19 rfl rfl)
theorem dX4_ends_20 : decode cX4_ends 20 = .ok (.aload_n 0, 1) := dk_42 (dk_at dksX4_ends_0 20 rfl rfl)
theorem dX4_ends_21 : decode cX4_ends 21 = .ok (.getfield 28, 3) := dk_180 0 28 (dk_at dksX4_ends_0 21 rfl rfl)
theorem dX4_ends_24 : decode cX4_ends 24 = .ok (.iload_n 2, 1) := dk_28 (dk_at dksX4_ends_1 0 rfl rfl)
theorem dX4_ends_25 : decode cX4_ends 25 = .ok (.iaload, 1) := dk_46 (dk_at dksX4_ends_1 1 rfl rfl)
theorem dX4_ends_26 : decode cX4_ends 26 = .ok (.iload_n 1, 1) := dk_27 (dk_at dksX4_ends_1 2 rfl rfl)
theorem dX4_ends_27 : decode cX4_ends 27 = .ok (.if_icmp .ne 7, 3) := dk_160 0 7 (dk_at dksX4_ends_1 3 rfl rfl)
theorem dX4_ends_30 : decode cX4_ends 30 = .ok (.iconst (-1), 1) := dk_2 (dk_at dksX4_ends_1 6 rfl rfl)
theorem dX4_ends_31 : decode cX4_ends 31 = .ok (.goto 9, 3) := dk_167 0 9 (dk_at dksX4_ends_1 7 rfl rfl)
theorem dX4_ends_34 : decode cX4_ends 34 = .ok (.aload_n 0, 1) := dk_42 (dk_at dksX4_ends_1 10 rfl rfl)
theorem dX4_ends_35 : decode cX4_ends 35 = .ok (.getfield 28, 3) := dk_180 0 28 (dk_at dksX4_ends_1 11 rfl rfl)
theorem dX4_ends_38 : decode cX4_ends 38 = .ok (.iload_n 2, 1) := dk_28 (dk_at dksX4_ends_1 14 rfl rfl)
theorem dX4_ends_39 : decode cX4_ends 39 = .ok (.iaload, 1) := dk_46 (dk_at dksX4_ends_1 15 rfl rfl)
theorem dX4_ends_40 : decode cX4_ends 40 = .ok (.iastore, 1) := dk_79 (dk_at dksX4_ends_1 16 rfl rfl)
theorem dX4_ends_41 : decode cX4_ends 41 = .ok (.iinc 2 1, 3) := dk_132 2 1 (dk_at dksX4_ends_1 17 rfl rfl)
theorem dX4_ends_44 : decode cX4_ends 44 = .ok (.goto (-35), 3) := dk_167 255 221 (dk_at dksX4_ends_1 20 rfl rfl)
theorem dX4_ends_47 : decode cX4_ends 47 = .ok (.return_, 1) := dk_177 (dk_at dksX4_ends_1 23 rfl rfl)
abbrev cX4_callOf : ByteArray := prog_19_method_40_code
def yX4_callOf : MethodName := ⟨RX4, "callOf", "(I)I"⟩
def dkwX4_callOf_1 : List UInt8 := [158, 0, 7, 3, 167, 0, 8, 42, 27, 182, 0, 132, 172]
abbrev dktX4_callOf_1 : List UInt8 := dkwX4_callOf_1 ++ []
def dkwX4_callOf_0 : List UInt8 := [42, 27, 3, 8, 184, 0, 84, 153, 0, 7, 3, 167, 0, 4, 4, 181, 0, 80, 42, 180, 0, 80]
abbrev dktX4_callOf_0 : List UInt8 := dkwX4_callOf_0 ++ dktX4_callOf_1
theorem dksX4_callOf_0 : cX4_callOf.data.toList.drop 0 = dktX4_callOf_0 := by decide +kernel
theorem dksX4_callOf_1 : cX4_callOf.data.toList.drop 22 = dktX4_callOf_1 := dk_seg dksX4_callOf_0 22 rfl rfl
theorem dX4_callOf_0 : decode cX4_callOf 0 = .ok (.aload_n 0, 1) := dk_42 (dk_at dksX4_callOf_0 0 rfl rfl)
theorem dX4_callOf_1 : decode cX4_callOf 1 = .ok (.iload_n 1, 1) := dk_27 (dk_at dksX4_callOf_0 1 rfl rfl)
theorem dX4_callOf_2 : decode cX4_callOf 2 = .ok (.iconst 0, 1) := dk_3 (dk_at dksX4_callOf_0 2 rfl rfl)
theorem dX4_callOf_3 : decode cX4_callOf 3 = .ok (.iconst 5, 1) := dk_8 (dk_at dksX4_callOf_0 3 rfl rfl)
theorem dX4_callOf_4 : decode cX4_callOf 4 = .ok (.invokestatic 84, 3) := dk_184 0 84 (dk_at dksX4_callOf_0 4 rfl rfl)
theorem dX4_callOf_7 : decode cX4_callOf 7 = .ok (.ifCond .eq 7, 3) := dk_153 0 7 (dk_at dksX4_callOf_0 7 rfl rfl)
theorem dX4_callOf_10 : decode cX4_callOf 10 = .ok (.iconst 0, 1) := dk_3 (dk_at dksX4_callOf_0 10 rfl rfl)
theorem dX4_callOf_11 : decode cX4_callOf 11 = .ok (.goto 4, 3) := dk_167 0 4 (dk_at dksX4_callOf_0 11 rfl rfl)
theorem dX4_callOf_14 : decode cX4_callOf 14 = .ok (.iconst 1, 1) := dk_4 (dk_at dksX4_callOf_0 14 rfl rfl)
theorem dX4_callOf_15 : decode cX4_callOf 15 = .ok (.putfield 80, 3) := dk_181 0 80 (dk_at dksX4_callOf_0 15 rfl rfl)
theorem dX4_callOf_18 : decode cX4_callOf 18 = .ok (.aload_n 0, 1) := dk_42 (dk_at dksX4_callOf_0 18 rfl rfl)
theorem dX4_callOf_19 : decode cX4_callOf 19 = .ok (.getfield 80, 3) := dk_180 0 80 (dk_at dksX4_callOf_0 19 rfl rfl)
theorem dX4_callOf_22 : decode cX4_callOf 22 = .ok (.ifCond .le 7, 3) := dk_158 0 7 (dk_at dksX4_callOf_1 0 rfl rfl)
theorem dX4_callOf_25 : decode cX4_callOf 25 = .ok (.iconst 0, 1) := dk_3 (dk_at dksX4_callOf_1 3 rfl rfl)
theorem dX4_callOf_26 : decode cX4_callOf 26 = .ok (.goto 8, 3) := dk_167 0 8 (dk_at dksX4_callOf_1 4 rfl rfl)
theorem dX4_callOf_29 : decode cX4_callOf 29 = .ok (.aload_n 0, 1) := dk_42 (dk_at dksX4_callOf_1 7 rfl rfl)
theorem dX4_callOf_30 : decode cX4_callOf 30 = .ok (.iload_n 1, 1) := dk_27 (dk_at dksX4_callOf_1 8 rfl rfl)
theorem dX4_callOf_31 : decode cX4_callOf 31 = .ok (.invokevirtual 132, 3) := dk_182 0 132 (dk_at dksX4_callOf_1 9 rfl rfl)
theorem dX4_callOf_34 : decode cX4_callOf 34 = .ok (.ireturn, 1) := dk_172 (dk_at dksX4_callOf_1 12 rfl rfl)
abbrev cX4_way : ByteArray := prog_19_method_41_code
def yX4_way : MethodName := ⟨RX4, "way", "(I)I"⟩
def dkwX4_way_3 : List UInt8 := [28, 172]
abbrev dktX4_way_3 : List UInt8 := dkwX4_way_3 ++ []
def dkwX4_way_2 : List UInt8 := [28, 42, 180, 0, 28, 29, 46, 27, 160, 0, 7, 4, 167, 0, 4, 3, 96, 61, 132, 3, 1, 167, 255, 222]
abbrev dktX4_way_2 : List UInt8 := dkwX4_way_2 ++ dktX4_way_3
def dkwX4_way_1 : List UInt8 := [167, 0, 4, 5, 181, 0, 80, 3, 61, 3, 62, 29, 16, 6, 162, 0, 34, 42, 180, 0, 80, 154, 0, 27]
abbrev dktX4_way_1 : List UInt8 := dkwX4_way_1 ++ dktX4_way_2
def dkwX4_way_0 : List UInt8 := [42, 42, 27, 182, 0, 148, 154, 0, 7, 4, 167, 0, 17, 42, 180, 0, 40, 27, 51, 153, 0, 7, 3]
abbrev dktX4_way_0 : List UInt8 := dkwX4_way_0 ++ dktX4_way_1
theorem dksX4_way_0 : cX4_way.data.toList.drop 0 = dktX4_way_0 := by decide +kernel
theorem dksX4_way_1 : cX4_way.data.toList.drop 23 = dktX4_way_1 := dk_seg dksX4_way_0 23 rfl rfl
theorem dksX4_way_2 : cX4_way.data.toList.drop 47 = dktX4_way_2 := dk_seg dksX4_way_1 24 rfl rfl
theorem dksX4_way_3 : cX4_way.data.toList.drop 71 = dktX4_way_3 := dk_seg dksX4_way_2 24 rfl rfl
theorem dX4_way_0 : decode cX4_way 0 = .ok (.aload_n 0, 1) := dk_42 (dk_at dksX4_way_0 0 rfl rfl)
theorem dX4_way_1 : decode cX4_way 1 = .ok (.aload_n 0, 1) := dk_42 (dk_at dksX4_way_0 1 rfl rfl)
theorem dX4_way_2 : decode cX4_way 2 = .ok (.iload_n 1, 1) := dk_27 (dk_at dksX4_way_0 2 rfl rfl)
theorem dX4_way_3 : decode cX4_way 3 = .ok (.invokevirtual 148, 3) := dk_182 0 148 (dk_at dksX4_way_0 3 rfl rfl)
theorem dX4_way_6 : decode cX4_way 6 = .ok (.ifCond .ne 7, 3) := dk_154 0 7 (dk_at dksX4_way_0 6 rfl rfl)
theorem dX4_way_9 : decode cX4_way 9 = .ok (.iconst 1, 1) := dk_4 (dk_at dksX4_way_0 9 rfl rfl)
theorem dX4_way_10 : decode cX4_way 10 = .ok (.goto 17, 3) := dk_167 0 17 (dk_at dksX4_way_0 10 rfl rfl)
theorem dX4_way_13 : decode cX4_way 13 = .ok (.aload_n 0, 1) := dk_42 (dk_at dksX4_way_0 13 rfl rfl)
theorem dX4_way_14 : decode cX4_way 14 = .ok (.getfield 40, 3) := dk_180 0 40 (dk_at dksX4_way_0 14 rfl rfl)
theorem dX4_way_17 : decode cX4_way 17 = .ok (.iload_n 1, 1) := dk_27 (dk_at dksX4_way_0 17 rfl rfl)
theorem dX4_way_18 : decode cX4_way 18 = .ok (.baload, 1) := dk_51 (dk_at dksX4_way_0 18 rfl rfl)
theorem dX4_way_19 : decode cX4_way 19 = .ok (.ifCond .eq 7, 3) := dk_153 0 7 (dk_at dksX4_way_0 19 rfl rfl)
theorem dX4_way_22 : decode cX4_way 22 = .ok (.iconst 0, 1) := dk_3 (dk_at dksX4_way_0 22 rfl rfl)
theorem dX4_way_23 : decode cX4_way 23 = .ok (.goto 4, 3) := dk_167 0 4 (dk_at dksX4_way_1 0 rfl rfl)
theorem dX4_way_26 : decode cX4_way 26 = .ok (.iconst 2, 1) := dk_5 (dk_at dksX4_way_1 3 rfl rfl)
theorem dX4_way_27 : decode cX4_way 27 = .ok (.putfield 80, 3) := dk_181 0 80 (dk_at dksX4_way_1 4 rfl rfl)
theorem dX4_way_30 : decode cX4_way 30 = .ok (.iconst 0, 1) := dk_3 (dk_at dksX4_way_1 7 rfl rfl)
theorem dX4_way_31 : decode cX4_way 31 = .ok (.istore_n 2, 1) := dk_61 (dk_at dksX4_way_1 8 rfl rfl)
theorem dX4_way_32 : decode cX4_way 32 = .ok (.iconst 0, 1) := dk_3 (dk_at dksX4_way_1 9 rfl rfl)
theorem dX4_way_33 : decode cX4_way 33 = .ok (.istore_n 3, 1) := dk_62 (dk_at dksX4_way_1 10 rfl rfl)
theorem dX4_way_34 : decode cX4_way 34 = .ok (.iload_n 3, 1) := dk_29 (dk_at dksX4_way_1 11 rfl rfl)
theorem dX4_way_35 : decode cX4_way 35 = .ok (.bipush 6, 2) := dk_16 6 (dk_at dksX4_way_1 12 rfl rfl)
theorem dX4_way_37 : decode cX4_way 37 = .ok (.if_icmp .ge 34, 3) := dk_162 0 34 (dk_at dksX4_way_1 14 rfl rfl)
theorem dX4_way_40 : decode cX4_way 40 = .ok (.aload_n 0, 1) := dk_42 (dk_at dksX4_way_1 17 rfl rfl)
theorem dX4_way_41 : decode cX4_way 41 = .ok (.getfield 80, 3) := dk_180 0 80 (dk_at dksX4_way_1 18 rfl rfl)
theorem dX4_way_44 : decode cX4_way 44 = .ok (.ifCond .ne 27, 3) := dk_154 0 27 (dk_at dksX4_way_1 21 rfl rfl)
theorem dX4_way_47 : decode cX4_way 47 = .ok (.iload_n 2, 1) := dk_28 (dk_at dksX4_way_2 0 rfl rfl)
theorem dX4_way_48 : decode cX4_way 48 = .ok (.aload_n 0, 1) := dk_42 (dk_at dksX4_way_2 1 rfl rfl)
theorem dX4_way_49 : decode cX4_way 49 = .ok (.getfield 28, 3) := dk_180 0 28 (dk_at dksX4_way_2 2 rfl rfl)
theorem dX4_way_52 : decode cX4_way 52 = .ok (.iload_n 3, 1) := dk_29 (dk_at dksX4_way_2 5 rfl rfl)
theorem dX4_way_53 : decode cX4_way 53 = .ok (.iaload, 1) := dk_46 (dk_at dksX4_way_2 6 rfl rfl)
theorem dX4_way_54 : decode cX4_way 54 = .ok (.iload_n 1, 1) := dk_27 (dk_at dksX4_way_2 7 rfl rfl)
theorem dX4_way_55 : decode cX4_way 55 = .ok (.if_icmp .ne 7, 3) := dk_160 0 7 (dk_at dksX4_way_2 8 rfl rfl)
theorem dX4_way_58 : decode cX4_way 58 = .ok (.iconst 1, 1) := dk_4 (dk_at dksX4_way_2 11 rfl rfl)
theorem dX4_way_59 : decode cX4_way 59 = .ok (.goto 4, 3) := dk_167 0 4 (dk_at dksX4_way_2 12 rfl rfl)
theorem dX4_way_62 : decode cX4_way 62 = .ok (.iconst 0, 1) := dk_3 (dk_at dksX4_way_2 15 rfl rfl)
theorem dX4_way_63 : decode cX4_way 63 = .ok (.iadd, 1) := dk_96 (dk_at dksX4_way_2 16 rfl rfl)
theorem dX4_way_64 : decode cX4_way 64 = .ok (.istore_n 2, 1) := dk_61 (dk_at dksX4_way_2 17 rfl rfl)
theorem dX4_way_65 : decode cX4_way 65 = .ok (.iinc 3 1, 3) := dk_132 3 1 (dk_at dksX4_way_2 18 rfl rfl)
theorem dX4_way_68 : decode cX4_way 68 = .ok (.goto (-34), 3) := dk_167 255 222 (dk_at dksX4_way_2 21 rfl rfl)
theorem dX4_way_71 : decode cX4_way 71 = .ok (.iload_n 2, 1) := dk_28 (dk_at dksX4_way_3 0 rfl rfl)
theorem dX4_way_72 : decode cX4_way 72 = .ok (.ireturn, 1) := dk_172 (dk_at dksX4_way_3 1 rfl rfl)
abbrev cX4_busy : ByteArray := prog_19_method_42_code
def yX4_busy : MethodName := ⟨RX4, "busy", "()I"⟩
def dkwX4_busy_0 : List UInt8 := [42, 3, 181, 0, 80, 42, 180, 0, 142, 172]
abbrev dktX4_busy_0 : List UInt8 := dkwX4_busy_0 ++ []
theorem dksX4_busy_0 : cX4_busy.data.toList.drop 0 = dktX4_busy_0 := by decide +kernel
theorem dX4_busy_0 : decode cX4_busy 0 = .ok (.aload_n 0, 1) := dk_42 (dk_at dksX4_busy_0 0 rfl rfl)
theorem dX4_busy_1 : decode cX4_busy 1 = .ok (.iconst 0, 1) := dk_3 (dk_at dksX4_busy_0 1 rfl rfl)
theorem dX4_busy_2 : decode cX4_busy 2 = .ok (.putfield 80, 3) := dk_181 0 80 (dk_at dksX4_busy_0 2 rfl rfl)
theorem dX4_busy_5 : decode cX4_busy 5 = .ok (.aload_n 0, 1) := dk_42 (dk_at dksX4_busy_0 5 rfl rfl)
theorem dX4_busy_6 : decode cX4_busy 6 = .ok (.getfield 142, 3) := dk_180 0 142 (dk_at dksX4_busy_0 6 rfl rfl)
theorem dX4_busy_9 : decode cX4_busy 9 = .ok (.ireturn, 1) := dk_172 (dk_at dksX4_busy_0 9 rfl rfl)
abbrev cX4_cut : ByteArray := prog_19_method_44_code
def yX4_cut : MethodName := ⟨RX4, "cut", "(III)I"⟩
def dkwX4_cut_5 : List UInt8 := [180, 0, 28, 27, 28, 184, 0, 125, 29, 96, 16, 254, 79, 21, 4, 172]
abbrev dktX4_cut_5 : List UInt8 := dkwX4_cut_5 ++ []
def dkwX4_cut_4 : List UInt8 := [46, 4, 79, 42, 180, 0, 59, 42, 180, 0, 44, 21, 4, 46, 42, 180, 0, 171, 16, 10, 96, 79, 42]
abbrev dktX4_cut_4 : List UInt8 := dkwX4_cut_4 ++ dktX4_cut_5
def dkwX4_cut_3 : List UInt8 := [182, 0, 164, 42, 180, 0, 44, 21, 4, 46, 2, 159, 0, 35, 42, 180, 0, 47, 42, 180, 0, 44, 21, 4]
abbrev dktX4_cut_3 : List UInt8 := dkwX4_cut_3 ++ dktX4_cut_4
def dkwX4_cut_2 : List UInt8 := [42, 180, 0, 28, 27, 28, 184, 0, 125, 29, 96, 46, 54, 4, 21, 4, 2, 159, 0, 52, 42, 21, 4]
abbrev dktX4_cut_2 : List UInt8 := dkwX4_cut_2 ++ dktX4_cut_3
def dkwX4_cut_1 : List UInt8 := [96, 46, 16, 254, 160, 0, 7, 5, 167, 0, 4, 3, 181, 0, 80, 42, 180, 0, 80, 158, 0, 5, 3, 172]
abbrev dktX4_cut_1 : List UInt8 := dkwX4_cut_1 ++ dktX4_cut_2
def dkwX4_cut_0 : List UInt8 := [42, 27, 28, 29, 184, 0, 168, 154, 0, 7, 4, 167, 0, 25, 42, 180, 0, 28, 27, 28, 184, 0, 125, 29]
abbrev dktX4_cut_0 : List UInt8 := dkwX4_cut_0 ++ dktX4_cut_1
theorem dksX4_cut_0 : cX4_cut.data.toList.drop 0 = dktX4_cut_0 := by decide +kernel
theorem dksX4_cut_1 : cX4_cut.data.toList.drop 24 = dktX4_cut_1 := dk_seg dksX4_cut_0 24 rfl rfl
theorem dksX4_cut_2 : cX4_cut.data.toList.drop 48 = dktX4_cut_2 := dk_seg dksX4_cut_1 24 rfl rfl
theorem dksX4_cut_3 : cX4_cut.data.toList.drop 71 = dktX4_cut_3 := dk_seg dksX4_cut_2 23 rfl rfl
theorem dksX4_cut_4 : cX4_cut.data.toList.drop 95 = dktX4_cut_4 := dk_seg dksX4_cut_3 24 rfl rfl
theorem dksX4_cut_5 : cX4_cut.data.toList.drop 118 = dktX4_cut_5 := dk_seg dksX4_cut_4 23 rfl rfl
theorem dX4_cut_0 : decode cX4_cut 0 = .ok (.aload_n 0, 1) := dk_42 (dk_at dksX4_cut_0 0 rfl rfl)
theorem dX4_cut_1 : decode cX4_cut 1 = .ok (.iload_n 1, 1) := dk_27 (dk_at dksX4_cut_0 1 rfl rfl)
theorem dX4_cut_2 : decode cX4_cut 2 = .ok (.iload_n 2, 1) := dk_28 (dk_at dksX4_cut_0 2 rfl rfl)
theorem dX4_cut_3 : decode cX4_cut 3 = .ok (.iload_n 3, 1) := dk_29 (dk_at dksX4_cut_0 3 rfl rfl)
theorem dX4_cut_4 : decode cX4_cut 4 = .ok (.invokestatic 168, 3) := dk_184 0 168 (dk_at dksX4_cut_0 4 rfl rfl)
theorem dX4_cut_7 : decode cX4_cut 7 = .ok (.ifCond .ne 7, 3) := dk_154 0 7 (dk_at dksX4_cut_0 7 rfl rfl)
theorem dX4_cut_10 : decode cX4_cut 10 = .ok (.iconst 1, 1) := dk_4 (dk_at dksX4_cut_0 10 rfl rfl)
theorem dX4_cut_11 : decode cX4_cut 11 = .ok (.goto 25, 3) := dk_167 0 25 (dk_at dksX4_cut_0 11 rfl rfl)
theorem dX4_cut_14 : decode cX4_cut 14 = .ok (.aload_n 0, 1) := dk_42 (dk_at dksX4_cut_0 14 rfl rfl)
theorem dX4_cut_15 : decode cX4_cut 15 = .ok (.getfield 28, 3) := dk_180 0 28 (dk_at dksX4_cut_0 15 rfl rfl)
theorem dX4_cut_18 : decode cX4_cut 18 = .ok (.iload_n 1, 1) := dk_27 (dk_at dksX4_cut_0 18 rfl rfl)
theorem dX4_cut_19 : decode cX4_cut 19 = .ok (.iload_n 2, 1) := dk_28 (dk_at dksX4_cut_0 19 rfl rfl)
theorem dX4_cut_20 : decode cX4_cut 20 = .ok (.invokestatic 125, 3) := dk_184 0 125 (dk_at dksX4_cut_0 20 rfl rfl)
theorem dX4_cut_23 : decode cX4_cut 23 = .ok (.iload_n 3, 1) := dk_29 (dk_at dksX4_cut_0 23 rfl rfl)
theorem dX4_cut_24 : decode cX4_cut 24 = .ok (.iadd, 1) := dk_96 (dk_at dksX4_cut_1 0 rfl rfl)
theorem dX4_cut_25 : decode cX4_cut 25 = .ok (.iaload, 1) := dk_46 (dk_at dksX4_cut_1 1 rfl rfl)
theorem dX4_cut_26 : decode cX4_cut 26 = .ok (.bipush (-2), 2) := dk_16 254 (dk_at dksX4_cut_1 2 rfl rfl)
theorem dX4_cut_28 : decode cX4_cut 28 = .ok (.if_icmp .ne 7, 3) := dk_160 0 7 (dk_at dksX4_cut_1 4 rfl rfl)
theorem dX4_cut_31 : decode cX4_cut 31 = .ok (.iconst 2, 1) := dk_5 (dk_at dksX4_cut_1 7 rfl rfl)
theorem dX4_cut_32 : decode cX4_cut 32 = .ok (.goto 4, 3) := dk_167 0 4 (dk_at dksX4_cut_1 8 rfl rfl)
theorem dX4_cut_35 : decode cX4_cut 35 = .ok (.iconst 0, 1) := dk_3 (dk_at dksX4_cut_1 11 rfl rfl)
theorem dX4_cut_36 : decode cX4_cut 36 = .ok (.putfield 80, 3) := dk_181 0 80 (dk_at dksX4_cut_1 12 rfl rfl)
theorem dX4_cut_39 : decode cX4_cut 39 = .ok (.aload_n 0, 1) := dk_42 (dk_at dksX4_cut_1 15 rfl rfl)
theorem dX4_cut_40 : decode cX4_cut 40 = .ok (.getfield 80, 3) := dk_180 0 80 (dk_at dksX4_cut_1 16 rfl rfl)
theorem dX4_cut_43 : decode cX4_cut 43 = .ok (.ifCond .le 5, 3) := dk_158 0 5 (dk_at dksX4_cut_1 19 rfl rfl)
theorem dX4_cut_46 : decode cX4_cut 46 = .ok (.iconst 0, 1) := dk_3 (dk_at dksX4_cut_1 22 rfl rfl)
theorem dX4_cut_47 : decode cX4_cut 47 = .ok (.ireturn, 1) := dk_172 (dk_at dksX4_cut_1 23 rfl rfl)
theorem dX4_cut_48 : decode cX4_cut 48 = .ok (.aload_n 0, 1) := dk_42 (dk_at dksX4_cut_2 0 rfl rfl)
theorem dX4_cut_49 : decode cX4_cut 49 = .ok (.getfield 28, 3) := dk_180 0 28 (dk_at dksX4_cut_2 1 rfl rfl)
theorem dX4_cut_52 : decode cX4_cut 52 = .ok (.iload_n 1, 1) := dk_27 (dk_at dksX4_cut_2 4 rfl rfl)
theorem dX4_cut_53 : decode cX4_cut 53 = .ok (.iload_n 2, 1) := dk_28 (dk_at dksX4_cut_2 5 rfl rfl)
theorem dX4_cut_54 : decode cX4_cut 54 = .ok (.invokestatic 125, 3) := dk_184 0 125 (dk_at dksX4_cut_2 6 rfl rfl)
theorem dX4_cut_57 : decode cX4_cut 57 = .ok (.iload_n 3, 1) := dk_29 (dk_at dksX4_cut_2 9 rfl rfl)
theorem dX4_cut_58 : decode cX4_cut 58 = .ok (.iadd, 1) := dk_96 (dk_at dksX4_cut_2 10 rfl rfl)
theorem dX4_cut_59 : decode cX4_cut 59 = .ok (.iaload, 1) := dk_46 (dk_at dksX4_cut_2 11 rfl rfl)
theorem dX4_cut_60 : decode cX4_cut 60 = .ok (.istore 4, 2) := dk_54 4 (dk_at dksX4_cut_2 12 rfl rfl)
theorem dX4_cut_62 : decode cX4_cut 62 = .ok (.iload 4, 2) := dk_21 4 (dk_at dksX4_cut_2 14 rfl rfl)
theorem dX4_cut_64 : decode cX4_cut 64 = .ok (.iconst (-1), 1) := dk_2 (dk_at dksX4_cut_2 16 rfl rfl)
theorem dX4_cut_65 : decode cX4_cut 65 = .ok (.if_icmp .eq 52, 3) := dk_159 0 52 (dk_at dksX4_cut_2 17 rfl rfl)
theorem dX4_cut_68 : decode cX4_cut 68 = .ok (.aload_n 0, 1) := dk_42 (dk_at dksX4_cut_2 20 rfl rfl)
theorem dX4_cut_69 : decode cX4_cut 69 = .ok (.iload 4, 2) := dk_21 4 (dk_at dksX4_cut_2 21 rfl rfl)
theorem dX4_cut_71 : decode cX4_cut 71 = .ok (.invokevirtual 164, 3) := dk_182 0 164 (dk_at dksX4_cut_3 0 rfl rfl)
theorem dX4_cut_74 : decode cX4_cut 74 = .ok (.aload_n 0, 1) := dk_42 (dk_at dksX4_cut_3 3 rfl rfl)
theorem dX4_cut_75 : decode cX4_cut 75 = .ok (.getfield 44, 3) := dk_180 0 44 (dk_at dksX4_cut_3 4 rfl rfl)
theorem dX4_cut_78 : decode cX4_cut 78 = .ok (.iload 4, 2) := dk_21 4 (dk_at dksX4_cut_3 7 rfl rfl)
theorem dX4_cut_80 : decode cX4_cut 80 = .ok (.iaload, 1) := dk_46 (dk_at dksX4_cut_3 9 rfl rfl)
theorem dX4_cut_81 : decode cX4_cut 81 = .ok (.iconst (-1), 1) := dk_2 (dk_at dksX4_cut_3 10 rfl rfl)
theorem dX4_cut_82 : decode cX4_cut 82 = .ok (.if_icmp .eq 35, 3) := dk_159 0 35 (dk_at dksX4_cut_3 11 rfl rfl)
theorem dX4_cut_85 : decode cX4_cut 85 = .ok (.aload_n 0, 1) := dk_42 (dk_at dksX4_cut_3 14 rfl rfl)
theorem dX4_cut_86 : decode cX4_cut 86 = .ok (.getfield 47, 3) := dk_180 0 47 (dk_at dksX4_cut_3 15 rfl rfl)
theorem dX4_cut_89 : decode cX4_cut 89 = .ok (.aload_n 0, 1) := dk_42 (dk_at dksX4_cut_3 18 rfl rfl)
theorem dX4_cut_90 : decode cX4_cut 90 = .ok (.getfield 44, 3) := dk_180 0 44 (dk_at dksX4_cut_3 19 rfl rfl)
theorem dX4_cut_93 : decode cX4_cut 93 = .ok (.iload 4, 2) := dk_21 4 (dk_at dksX4_cut_3 22 rfl rfl)
theorem dX4_cut_95 : decode cX4_cut 95 = .ok (.iaload, 1) := dk_46 (dk_at dksX4_cut_4 0 rfl rfl)
theorem dX4_cut_96 : decode cX4_cut 96 = .ok (.iconst 1, 1) := dk_4 (dk_at dksX4_cut_4 1 rfl rfl)
theorem dX4_cut_97 : decode cX4_cut 97 = .ok (.iastore, 1) := dk_79 (dk_at dksX4_cut_4 2 rfl rfl)
theorem dX4_cut_98 : decode cX4_cut 98 = .ok (.aload_n 0, 1) := dk_42 (dk_at dksX4_cut_4 3 rfl rfl)
theorem dX4_cut_99 : decode cX4_cut 99 = .ok (.getfield 59, 3) := dk_180 0 59 (dk_at dksX4_cut_4 4 rfl rfl)
theorem dX4_cut_102 : decode cX4_cut 102 = .ok (.aload_n 0, 1) := dk_42 (dk_at dksX4_cut_4 7 rfl rfl)
theorem dX4_cut_103 : decode cX4_cut 103 = .ok (.getfield 44, 3) := dk_180 0 44 (dk_at dksX4_cut_4 8 rfl rfl)
theorem dX4_cut_106 : decode cX4_cut 106 = .ok (.iload 4, 2) := dk_21 4 (dk_at dksX4_cut_4 11 rfl rfl)
theorem dX4_cut_108 : decode cX4_cut 108 = .ok (.iaload, 1) := dk_46 (dk_at dksX4_cut_4 13 rfl rfl)
theorem dX4_cut_109 : decode cX4_cut 109 = .ok (.aload_n 0, 1) := dk_42 (dk_at dksX4_cut_4 14 rfl rfl)
theorem dX4_cut_110 : decode cX4_cut 110 = .ok (.getfield 171, 3) := dk_180 0 171 (dk_at dksX4_cut_4 15 rfl rfl)
theorem dX4_cut_113 : decode cX4_cut 113 = .ok (.bipush 10, 2) := dk_16 10 (dk_at dksX4_cut_4 18 rfl rfl)
theorem dX4_cut_115 : decode cX4_cut 115 = .ok (.iadd, 1) := dk_96 (dk_at dksX4_cut_4 20 rfl rfl)
theorem dX4_cut_116 : decode cX4_cut 116 = .ok (.iastore, 1) := dk_79 (dk_at dksX4_cut_4 21 rfl rfl)
theorem dX4_cut_117 : decode cX4_cut 117 = .ok (.aload_n 0, 1) := dk_42 (dk_at dksX4_cut_4 22 rfl rfl)
theorem dX4_cut_118 : decode cX4_cut 118 = .ok (.getfield 28, 3) := dk_180 0 28 (dk_at dksX4_cut_5 0 rfl rfl)
theorem dX4_cut_121 : decode cX4_cut 121 = .ok (.iload_n 1, 1) := dk_27 (dk_at dksX4_cut_5 3 rfl rfl)
theorem dX4_cut_122 : decode cX4_cut 122 = .ok (.iload_n 2, 1) := dk_28 (dk_at dksX4_cut_5 4 rfl rfl)
theorem dX4_cut_123 : decode cX4_cut 123 = .ok (.invokestatic 125, 3) := dk_184 0 125 (dk_at dksX4_cut_5 5 rfl rfl)
theorem dX4_cut_126 : decode cX4_cut 126 = .ok (.iload_n 3, 1) := dk_29 (dk_at dksX4_cut_5 8 rfl rfl)
theorem dX4_cut_127 : decode cX4_cut 127 = .ok (.iadd, 1) := dk_96 (dk_at dksX4_cut_5 9 rfl rfl)
theorem dX4_cut_128 : decode cX4_cut 128 = .ok (.bipush (-2), 2) := dk_16 254 (dk_at dksX4_cut_5 10 rfl rfl)
theorem dX4_cut_130 : decode cX4_cut 130 = .ok (.iastore, 1) := dk_79 (dk_at dksX4_cut_5 12 rfl rfl)
theorem dX4_cut_131 : decode cX4_cut 131 = .ok (.iload 4, 2) := dk_21 4 (dk_at dksX4_cut_5 13 rfl rfl)
theorem dX4_cut_133 : decode cX4_cut 133 = .ok (.ireturn, 1) := dk_172 (dk_at dksX4_cut_5 15 rfl rfl)
abbrev cX4_isTrunk : ByteArray := prog_19_method_43_code
def yX4_isTrunk : MethodName := ⟨RX4, "isTrunk", "(III)Z"⟩
def dkwX4_isTrunk_1 : List UInt8 := [184, 0, 84, 153, 0, 7, 4, 167, 0, 4, 3, 172]
abbrev dktX4_isTrunk_1 : List UInt8 := dkwX4_isTrunk_1 ++ []
def dkwX4_isTrunk_0 : List UInt8 := [26, 184, 0, 88, 153, 0, 28, 27, 184, 0, 88, 153, 0, 21, 26, 27, 159, 0, 16, 28, 3, 4]
abbrev dktX4_isTrunk_0 : List UInt8 := dkwX4_isTrunk_0 ++ dktX4_isTrunk_1
theorem dksX4_isTrunk_0 : cX4_isTrunk.data.toList.drop 0 = dktX4_isTrunk_0 := by decide +kernel
theorem dksX4_isTrunk_1 : cX4_isTrunk.data.toList.drop 22 = dktX4_isTrunk_1 := dk_seg dksX4_isTrunk_0 22 rfl rfl
theorem dX4_isTrunk_0 : decode cX4_isTrunk 0 = .ok (.iload_n 0, 1) := dk_26 (dk_at dksX4_isTrunk_0 0 rfl rfl)
theorem dX4_isTrunk_1 : decode cX4_isTrunk 1 = .ok (.invokestatic 88, 3) := dk_184 0 88 (dk_at dksX4_isTrunk_0 1 rfl rfl)
theorem dX4_isTrunk_4 : decode cX4_isTrunk 4 = .ok (.ifCond .eq 28, 3) := dk_153 0 28 (dk_at dksX4_isTrunk_0 4 rfl rfl)
theorem dX4_isTrunk_7 : decode cX4_isTrunk 7 = .ok (.iload_n 1, 1) := dk_27 (dk_at dksX4_isTrunk_0 7 rfl rfl)
theorem dX4_isTrunk_8 : decode cX4_isTrunk 8 = .ok (.invokestatic 88, 3) := dk_184 0 88 (dk_at dksX4_isTrunk_0 8 rfl rfl)
theorem dX4_isTrunk_11 : decode cX4_isTrunk 11 = .ok (.ifCond .eq 21, 3) := dk_153 0 21 (dk_at dksX4_isTrunk_0 11 rfl rfl)
theorem dX4_isTrunk_14 : decode cX4_isTrunk 14 = .ok (.iload_n 0, 1) := dk_26 (dk_at dksX4_isTrunk_0 14 rfl rfl)
theorem dX4_isTrunk_15 : decode cX4_isTrunk 15 = .ok (.iload_n 1, 1) := dk_27 (dk_at dksX4_isTrunk_0 15 rfl rfl)
theorem dX4_isTrunk_16 : decode cX4_isTrunk 16 = .ok (.if_icmp .eq 16, 3) := dk_159 0 16 (dk_at dksX4_isTrunk_0 16 rfl rfl)
theorem dX4_isTrunk_19 : decode cX4_isTrunk 19 = .ok (.iload_n 2, 1) := dk_28 (dk_at dksX4_isTrunk_0 19 rfl rfl)
theorem dX4_isTrunk_20 : decode cX4_isTrunk 20 = .ok (.iconst 0, 1) := dk_3 (dk_at dksX4_isTrunk_0 20 rfl rfl)
theorem dX4_isTrunk_21 : decode cX4_isTrunk 21 = .ok (.iconst 1, 1) := dk_4 (dk_at dksX4_isTrunk_0 21 rfl rfl)
theorem dX4_isTrunk_22 : decode cX4_isTrunk 22 = .ok (.invokestatic 84, 3) := dk_184 0 84 (dk_at dksX4_isTrunk_1 0 rfl rfl)
theorem dX4_isTrunk_25 : decode cX4_isTrunk 25 = .ok (.ifCond .eq 7, 3) := dk_153 0 7 (dk_at dksX4_isTrunk_1 3 rfl rfl)
theorem dX4_isTrunk_28 : decode cX4_isTrunk 28 = .ok (.iconst 1, 1) := dk_4 (dk_at dksX4_isTrunk_1 6 rfl rfl)
theorem dX4_isTrunk_29 : decode cX4_isTrunk 29 = .ok (.goto 4, 3) := dk_167 0 4 (dk_at dksX4_isTrunk_1 7 rfl rfl)
theorem dX4_isTrunk_32 : decode cX4_isTrunk 32 = .ok (.iconst 0, 1) := dk_3 (dk_at dksX4_isTrunk_1 10 rfl rfl)
theorem dX4_isTrunk_33 : decode cX4_isTrunk 33 = .ok (.ireturn, 1) := dk_172 (dk_at dksX4_isTrunk_1 11 rfl rfl)
abbrev cX4_mend : ByteArray := prog_19_method_45_code
def yX4_mend : MethodName := ⟨RX4, "mend", "(III)V"⟩
def dkwX4_mend_2 : List UInt8 := [180, 0, 28, 27, 28, 184, 0, 125, 29, 96, 2, 79, 177]
abbrev dktX4_mend_2 : List UInt8 := dkwX4_mend_2 ++ []
def dkwX4_mend_1 : List UInt8 := [96, 46, 16, 254, 159, 0, 7, 5, 167, 0, 4, 3, 181, 0, 80, 42, 180, 0, 80, 154, 0, 16, 42]
abbrev dktX4_mend_1 : List UInt8 := dkwX4_mend_1 ++ dktX4_mend_2
def dkwX4_mend_0 : List UInt8 := [42, 27, 28, 29, 184, 0, 168, 154, 0, 7, 4, 167, 0, 25, 42, 180, 0, 28, 27, 28, 184, 0, 125, 29]
abbrev dktX4_mend_0 : List UInt8 := dkwX4_mend_0 ++ dktX4_mend_1
theorem dksX4_mend_0 : cX4_mend.data.toList.drop 0 = dktX4_mend_0 := by decide +kernel
theorem dksX4_mend_1 : cX4_mend.data.toList.drop 24 = dktX4_mend_1 := dk_seg dksX4_mend_0 24 rfl rfl
theorem dksX4_mend_2 : cX4_mend.data.toList.drop 47 = dktX4_mend_2 := dk_seg dksX4_mend_1 23 rfl rfl
theorem dX4_mend_0 : decode cX4_mend 0 = .ok (.aload_n 0, 1) := dk_42 (dk_at dksX4_mend_0 0 rfl rfl)
theorem dX4_mend_1 : decode cX4_mend 1 = .ok (.iload_n 1, 1) := dk_27 (dk_at dksX4_mend_0 1 rfl rfl)
theorem dX4_mend_2 : decode cX4_mend 2 = .ok (.iload_n 2, 1) := dk_28 (dk_at dksX4_mend_0 2 rfl rfl)
theorem dX4_mend_3 : decode cX4_mend 3 = .ok (.iload_n 3, 1) := dk_29 (dk_at dksX4_mend_0 3 rfl rfl)
theorem dX4_mend_4 : decode cX4_mend 4 = .ok (.invokestatic 168, 3) := dk_184 0 168 (dk_at dksX4_mend_0 4 rfl rfl)
theorem dX4_mend_7 : decode cX4_mend 7 = .ok (.ifCond .ne 7, 3) := dk_154 0 7 (dk_at dksX4_mend_0 7 rfl rfl)
theorem dX4_mend_10 : decode cX4_mend 10 = .ok (.iconst 1, 1) := dk_4 (dk_at dksX4_mend_0 10 rfl rfl)
theorem dX4_mend_11 : decode cX4_mend 11 = .ok (.goto 25, 3) := dk_167 0 25 (dk_at dksX4_mend_0 11 rfl rfl)
theorem dX4_mend_14 : decode cX4_mend 14 = .ok (.aload_n 0, 1) := dk_42 (dk_at dksX4_mend_0 14 rfl rfl)
theorem dX4_mend_15 : decode cX4_mend 15 = .ok (.getfield 28, 3) := dk_180 0 28 (dk_at dksX4_mend_0 15 rfl rfl)
theorem dX4_mend_18 : decode cX4_mend 18 = .ok (.iload_n 1, 1) := dk_27 (dk_at dksX4_mend_0 18 rfl rfl)
theorem dX4_mend_19 : decode cX4_mend 19 = .ok (.iload_n 2, 1) := dk_28 (dk_at dksX4_mend_0 19 rfl rfl)
theorem dX4_mend_20 : decode cX4_mend 20 = .ok (.invokestatic 125, 3) := dk_184 0 125 (dk_at dksX4_mend_0 20 rfl rfl)
theorem dX4_mend_23 : decode cX4_mend 23 = .ok (.iload_n 3, 1) := dk_29 (dk_at dksX4_mend_0 23 rfl rfl)
theorem dX4_mend_24 : decode cX4_mend 24 = .ok (.iadd, 1) := dk_96 (dk_at dksX4_mend_1 0 rfl rfl)
theorem dX4_mend_25 : decode cX4_mend 25 = .ok (.iaload, 1) := dk_46 (dk_at dksX4_mend_1 1 rfl rfl)
theorem dX4_mend_26 : decode cX4_mend 26 = .ok (.bipush (-2), 2) := dk_16 254 (dk_at dksX4_mend_1 2 rfl rfl)
theorem dX4_mend_28 : decode cX4_mend 28 = .ok (.if_icmp .eq 7, 3) := dk_159 0 7 (dk_at dksX4_mend_1 4 rfl rfl)
theorem dX4_mend_31 : decode cX4_mend 31 = .ok (.iconst 2, 1) := dk_5 (dk_at dksX4_mend_1 7 rfl rfl)
theorem dX4_mend_32 : decode cX4_mend 32 = .ok (.goto 4, 3) := dk_167 0 4 (dk_at dksX4_mend_1 8 rfl rfl)
theorem dX4_mend_35 : decode cX4_mend 35 = .ok (.iconst 0, 1) := dk_3 (dk_at dksX4_mend_1 11 rfl rfl)
theorem dX4_mend_36 : decode cX4_mend 36 = .ok (.putfield 80, 3) := dk_181 0 80 (dk_at dksX4_mend_1 12 rfl rfl)
theorem dX4_mend_39 : decode cX4_mend 39 = .ok (.aload_n 0, 1) := dk_42 (dk_at dksX4_mend_1 15 rfl rfl)
theorem dX4_mend_40 : decode cX4_mend 40 = .ok (.getfield 80, 3) := dk_180 0 80 (dk_at dksX4_mend_1 16 rfl rfl)
theorem dX4_mend_43 : decode cX4_mend 43 = .ok (.ifCond .ne 16, 3) := dk_154 0 16 (dk_at dksX4_mend_1 19 rfl rfl)
theorem dX4_mend_46 : decode cX4_mend 46 = .ok (.aload_n 0, 1) := dk_42 (dk_at dksX4_mend_1 22 rfl rfl)
theorem dX4_mend_47 : decode cX4_mend 47 = .ok (.getfield 28, 3) := dk_180 0 28 (dk_at dksX4_mend_2 0 rfl rfl)
theorem dX4_mend_50 : decode cX4_mend 50 = .ok (.iload_n 1, 1) := dk_27 (dk_at dksX4_mend_2 3 rfl rfl)
theorem dX4_mend_51 : decode cX4_mend 51 = .ok (.iload_n 2, 1) := dk_28 (dk_at dksX4_mend_2 4 rfl rfl)
theorem dX4_mend_52 : decode cX4_mend 52 = .ok (.invokestatic 125, 3) := dk_184 0 125 (dk_at dksX4_mend_2 5 rfl rfl)
theorem dX4_mend_55 : decode cX4_mend 55 = .ok (.iload_n 3, 1) := dk_29 (dk_at dksX4_mend_2 8 rfl rfl)
theorem dX4_mend_56 : decode cX4_mend 56 = .ok (.iadd, 1) := dk_96 (dk_at dksX4_mend_2 9 rfl rfl)
theorem dX4_mend_57 : decode cX4_mend 57 = .ok (.iconst (-1), 1) := dk_2 (dk_at dksX4_mend_2 10 rfl rfl)
theorem dX4_mend_58 : decode cX4_mend 58 = .ok (.iastore, 1) := dk_79 (dk_at dksX4_mend_2 11 rfl rfl)
theorem dX4_mend_59 : decode cX4_mend 59 = .ok (.return_, 1) := dk_177 (dk_at dksX4_mend_2 12 rfl rfl)
abbrev cX4_trunk : ByteArray := prog_19_method_46_code
def yX4_trunk : MethodName := ⟨RX4, "trunk", "(III)I"⟩
def dkwX4_trunk_1 : List UInt8 := [158, 0, 7, 3, 167, 0, 15, 42, 180, 0, 28, 27, 28, 184, 0, 125, 29, 96, 46, 172]
abbrev dktX4_trunk_1 : List UInt8 := dkwX4_trunk_1 ++ []
def dkwX4_trunk_0 : List UInt8 := [42, 27, 28, 29, 184, 0, 168, 153, 0, 7, 3, 167, 0, 4, 4, 181, 0, 80, 42, 180, 0, 80]
abbrev dktX4_trunk_0 : List UInt8 := dkwX4_trunk_0 ++ dktX4_trunk_1
theorem dksX4_trunk_0 : cX4_trunk.data.toList.drop 0 = dktX4_trunk_0 := by decide +kernel
theorem dksX4_trunk_1 : cX4_trunk.data.toList.drop 22 = dktX4_trunk_1 := dk_seg dksX4_trunk_0 22 rfl rfl
theorem dX4_trunk_0 : decode cX4_trunk 0 = .ok (.aload_n 0, 1) := dk_42 (dk_at dksX4_trunk_0 0 rfl rfl)
theorem dX4_trunk_1 : decode cX4_trunk 1 = .ok (.iload_n 1, 1) := dk_27 (dk_at dksX4_trunk_0 1 rfl rfl)
theorem dX4_trunk_2 : decode cX4_trunk 2 = .ok (.iload_n 2, 1) := dk_28 (dk_at dksX4_trunk_0 2 rfl rfl)
theorem dX4_trunk_3 : decode cX4_trunk 3 = .ok (.iload_n 3, 1) := dk_29 (dk_at dksX4_trunk_0 3 rfl rfl)
theorem dX4_trunk_4 : decode cX4_trunk 4 = .ok (.invokestatic 168, 3) := dk_184 0 168 (dk_at dksX4_trunk_0 4 rfl rfl)
theorem dX4_trunk_7 : decode cX4_trunk 7 = .ok (.ifCond .eq 7, 3) := dk_153 0 7 (dk_at dksX4_trunk_0 7 rfl rfl)
theorem dX4_trunk_10 : decode cX4_trunk 10 = .ok (.iconst 0, 1) := dk_3 (dk_at dksX4_trunk_0 10 rfl rfl)
theorem dX4_trunk_11 : decode cX4_trunk 11 = .ok (.goto 4, 3) := dk_167 0 4 (dk_at dksX4_trunk_0 11 rfl rfl)
theorem dX4_trunk_14 : decode cX4_trunk 14 = .ok (.iconst 1, 1) := dk_4 (dk_at dksX4_trunk_0 14 rfl rfl)
theorem dX4_trunk_15 : decode cX4_trunk 15 = .ok (.putfield 80, 3) := dk_181 0 80 (dk_at dksX4_trunk_0 15 rfl rfl)
theorem dX4_trunk_18 : decode cX4_trunk 18 = .ok (.aload_n 0, 1) := dk_42 (dk_at dksX4_trunk_0 18 rfl rfl)
theorem dX4_trunk_19 : decode cX4_trunk 19 = .ok (.getfield 80, 3) := dk_180 0 80 (dk_at dksX4_trunk_0 19 rfl rfl)
theorem dX4_trunk_22 : decode cX4_trunk 22 = .ok (.ifCond .le 7, 3) := dk_158 0 7 (dk_at dksX4_trunk_1 0 rfl rfl)
theorem dX4_trunk_25 : decode cX4_trunk 25 = .ok (.iconst 0, 1) := dk_3 (dk_at dksX4_trunk_1 3 rfl rfl)
theorem dX4_trunk_26 : decode cX4_trunk 26 = .ok (.goto 15, 3) := dk_167 0 15 (dk_at dksX4_trunk_1 4 rfl rfl)
theorem dX4_trunk_29 : decode cX4_trunk 29 = .ok (.aload_n 0, 1) := dk_42 (dk_at dksX4_trunk_1 7 rfl rfl)
theorem dX4_trunk_30 : decode cX4_trunk 30 = .ok (.getfield 28, 3) := dk_180 0 28 (dk_at dksX4_trunk_1 8 rfl rfl)
theorem dX4_trunk_33 : decode cX4_trunk 33 = .ok (.iload_n 1, 1) := dk_27 (dk_at dksX4_trunk_1 11 rfl rfl)
theorem dX4_trunk_34 : decode cX4_trunk 34 = .ok (.iload_n 2, 1) := dk_28 (dk_at dksX4_trunk_1 12 rfl rfl)
theorem dX4_trunk_35 : decode cX4_trunk 35 = .ok (.invokestatic 125, 3) := dk_184 0 125 (dk_at dksX4_trunk_1 13 rfl rfl)
theorem dX4_trunk_38 : decode cX4_trunk 38 = .ok (.iload_n 3, 1) := dk_29 (dk_at dksX4_trunk_1 16 rfl rfl)
theorem dX4_trunk_39 : decode cX4_trunk 39 = .ok (.iadd, 1) := dk_96 (dk_at dksX4_trunk_1 17 rfl rfl)
theorem dX4_trunk_40 : decode cX4_trunk 40 = .ok (.iaload, 1) := dk_46 (dk_at dksX4_trunk_1 18 rfl rfl)
theorem dX4_trunk_41 : decode cX4_trunk 41 = .ok (.ireturn, 1) := dk_172 (dk_at dksX4_trunk_1 19 rfl rfl)
abbrev cX4_setLines : ByteArray := prog_19_method_47_code
def yX4_setLines : MethodName := ⟨RX4, "setLines", "(II)I"⟩
def dkwX4_setLines_2 : List UInt8 := [42, 180, 0, 31, 27, 46, 62, 42, 180, 0, 31, 27, 28, 79, 29, 172]
abbrev dktX4_setLines_2 : List UInt8 := dkwX4_setLines_2 ++ []
def dkwX4_setLines_1 : List UInt8 := [182, 0, 136, 28, 164, 0, 7, 5, 167, 0, 4, 3, 181, 0, 80, 42, 180, 0, 80, 158, 0, 5, 3, 172]
abbrev dktX4_setLines_1 : List UInt8 := dkwX4_setLines_1 ++ dktX4_setLines_2
def dkwX4_setLines_0 : List UInt8 := [42, 27, 184, 0, 88, 153, 0, 12, 28, 3, 6, 184, 0, 84, 154, 0, 7, 4, 167, 0, 17, 42, 27]
abbrev dktX4_setLines_0 : List UInt8 := dkwX4_setLines_0 ++ dktX4_setLines_1
theorem dksX4_setLines_0 : cX4_setLines.data.toList.drop 0 = dktX4_setLines_0 := by decide +kernel
theorem dksX4_setLines_1 : cX4_setLines.data.toList.drop 23 = dktX4_setLines_1 := dk_seg dksX4_setLines_0 23 rfl rfl
theorem dksX4_setLines_2 : cX4_setLines.data.toList.drop 47 = dktX4_setLines_2 := dk_seg dksX4_setLines_1 24 rfl rfl
theorem dX4_setLines_0 : decode cX4_setLines 0 = .ok (.aload_n 0, 1) := dk_42 (dk_at dksX4_setLines_0 0 rfl rfl)
theorem dX4_setLines_1 : decode cX4_setLines 1 = .ok (.iload_n 1, 1) := dk_27 (dk_at dksX4_setLines_0 1 rfl rfl)
theorem dX4_setLines_2 : decode cX4_setLines 2 = .ok (.invokestatic 88, 3) := dk_184 0 88 (dk_at dksX4_setLines_0 2 rfl rfl)
theorem dX4_setLines_5 : decode cX4_setLines 5 = .ok (.ifCond .eq 12, 3) := dk_153 0 12 (dk_at dksX4_setLines_0 5 rfl rfl)
theorem dX4_setLines_8 : decode cX4_setLines 8 = .ok (.iload_n 2, 1) := dk_28 (dk_at dksX4_setLines_0 8 rfl rfl)
theorem dX4_setLines_9 : decode cX4_setLines 9 = .ok (.iconst 0, 1) := dk_3 (dk_at dksX4_setLines_0 9 rfl rfl)
theorem dX4_setLines_10 : decode cX4_setLines 10 = .ok (.iconst 3, 1) := dk_6 (dk_at dksX4_setLines_0 10 rfl rfl)
theorem dX4_setLines_11 : decode cX4_setLines 11 = .ok (.invokestatic 84, 3) := dk_184 0 84 (dk_at dksX4_setLines_0 11 rfl rfl)
theorem dX4_setLines_14 : decode cX4_setLines 14 = .ok (.ifCond .ne 7, 3) := dk_154 0 7 (dk_at dksX4_setLines_0 14 rfl rfl)
theorem dX4_setLines_17 : decode cX4_setLines 17 = .ok (.iconst 1, 1) := dk_4 (dk_at dksX4_setLines_0 17 rfl rfl)
theorem dX4_setLines_18 : decode cX4_setLines 18 = .ok (.goto 17, 3) := dk_167 0 17 (dk_at dksX4_setLines_0 18 rfl rfl)
theorem dX4_setLines_21 : decode cX4_setLines 21 = .ok (.aload_n 0, 1) := dk_42 (dk_at dksX4_setLines_0 21 rfl rfl)
theorem dX4_setLines_22 : decode cX4_setLines 22 = .ok (.iload_n 1, 1) := dk_27 (dk_at dksX4_setLines_0 22 rfl rfl)
theorem dX4_setLines_23 : decode cX4_setLines 23 = .ok (.invokevirtual 136, 3) := dk_182 0 136 (dk_at dksX4_setLines_1 0 rfl rfl)
theorem dX4_setLines_26 : decode cX4_setLines 26 = .ok (.iload_n 2, 1) := dk_28 (dk_at dksX4_setLines_1 3 rfl rfl)
theorem dX4_setLines_27 : decode cX4_setLines 27 = .ok (.if_icmp .le 7, 3) := dk_164 0 7 (dk_at dksX4_setLines_1 4 rfl rfl)
theorem dX4_setLines_30 : decode cX4_setLines 30 = .ok (.iconst 2, 1) := dk_5 (dk_at dksX4_setLines_1 7 rfl rfl)
theorem dX4_setLines_31 : decode cX4_setLines 31 = .ok (.goto 4, 3) := dk_167 0 4 (dk_at dksX4_setLines_1 8 rfl rfl)
theorem dX4_setLines_34 : decode cX4_setLines 34 = .ok (.iconst 0, 1) := dk_3 (dk_at dksX4_setLines_1 11 rfl rfl)
theorem dX4_setLines_35 : decode cX4_setLines 35 = .ok (.putfield 80, 3) := dk_181 0 80 (dk_at dksX4_setLines_1 12 rfl rfl)
theorem dX4_setLines_38 : decode cX4_setLines 38 = .ok (.aload_n 0, 1) := dk_42 (dk_at dksX4_setLines_1 15 rfl rfl)
theorem dX4_setLines_39 : decode cX4_setLines 39 = .ok (.getfield 80, 3) := dk_180 0 80 (dk_at dksX4_setLines_1 16 rfl rfl)
theorem dX4_setLines_42 : decode cX4_setLines 42 = .ok (.ifCond .le 5, 3) := dk_158 0 5 (dk_at dksX4_setLines_1 19 rfl rfl)
theorem dX4_setLines_45 : decode cX4_setLines 45 = .ok (.iconst 0, 1) := dk_3 (dk_at dksX4_setLines_1 22 rfl rfl)
theorem dX4_setLines_46 : decode cX4_setLines 46 = .ok (.ireturn, 1) := dk_172 (dk_at dksX4_setLines_1 23 rfl rfl)
theorem dX4_setLines_47 : decode cX4_setLines 47 = .ok (.aload_n 0, 1) := dk_42 (dk_at dksX4_setLines_2 0 rfl rfl)
theorem dX4_setLines_48 : decode cX4_setLines 48 = .ok (.getfield 31, 3) := dk_180 0 31 (dk_at dksX4_setLines_2 1 rfl rfl)
theorem dX4_setLines_51 : decode cX4_setLines 51 = .ok (.iload_n 1, 1) := dk_27 (dk_at dksX4_setLines_2 4 rfl rfl)
theorem dX4_setLines_52 : decode cX4_setLines 52 = .ok (.iaload, 1) := dk_46 (dk_at dksX4_setLines_2 5 rfl rfl)
theorem dX4_setLines_53 : decode cX4_setLines 53 = .ok (.istore_n 3, 1) := dk_62 (dk_at dksX4_setLines_2 6 rfl rfl)
theorem dX4_setLines_54 : decode cX4_setLines 54 = .ok (.aload_n 0, 1) := dk_42 (dk_at dksX4_setLines_2 7 rfl rfl)
theorem dX4_setLines_55 : decode cX4_setLines 55 = .ok (.getfield 31, 3) := dk_180 0 31 (dk_at dksX4_setLines_2 8 rfl rfl)
theorem dX4_setLines_58 : decode cX4_setLines 58 = .ok (.iload_n 1, 1) := dk_27 (dk_at dksX4_setLines_2 11 rfl rfl)
theorem dX4_setLines_59 : decode cX4_setLines 59 = .ok (.iload_n 2, 1) := dk_28 (dk_at dksX4_setLines_2 12 rfl rfl)
theorem dX4_setLines_60 : decode cX4_setLines 60 = .ok (.iastore, 1) := dk_79 (dk_at dksX4_setLines_2 13 rfl rfl)
theorem dX4_setLines_61 : decode cX4_setLines 61 = .ok (.iload_n 3, 1) := dk_29 (dk_at dksX4_setLines_2 14 rfl rfl)
theorem dX4_setLines_62 : decode cX4_setLines 62 = .ok (.ireturn, 1) := dk_172 (dk_at dksX4_setLines_2 15 rfl rfl)
abbrev cX4_pass : ByteArray := prog_19_method_48_code
def yX4_pass : MethodName := ⟨RX4, "pass", "(I)I"⟩
def dkwX4_pass_4 : List UInt8 := [8, 79, 132, 2, 1, 132, 3, 1, 167, 255, 212, 28, 172]
abbrev dktX4_pass_4 : List UInt8 := dkwX4_pass_4 ++ []
def dkwX4_pass_3 : List UInt8 := [29, 46, 4, 160, 0, 26, 42, 180, 0, 59, 29, 46, 42, 180, 0, 171, 163, 0, 13, 42, 180, 0, 47, 29]
abbrev dktX4_pass_3 : List UInt8 := dkwX4_pass_3 ++ dktX4_pass_4
def dkwX4_pass_2 : List UInt8 := [180, 0, 171, 27, 96, 181, 0, 171, 3, 61, 3, 62, 29, 42, 180, 0, 122, 162, 0, 42, 42, 180, 0, 47]
abbrev dktX4_pass_2 : List UInt8 := dkwX4_pass_2 ++ dktX4_pass_3
def dkwX4_pass_1 : List UInt8 := [164, 0, 7, 5, 167, 0, 4, 3, 181, 0, 80, 42, 180, 0, 80, 158, 0, 5, 3, 172, 42, 89]
abbrev dktX4_pass_1 : List UInt8 := dkwX4_pass_1 ++ dktX4_pass_2
def dkwX4_pass_0 : List UInt8 := [42, 27, 4, 16, 100, 184, 0, 84, 154, 0, 7, 4, 167, 0, 20, 42, 180, 0, 171, 27, 96, 17, 39, 16]
abbrev dktX4_pass_0 : List UInt8 := dkwX4_pass_0 ++ dktX4_pass_1
theorem dksX4_pass_0 : cX4_pass.data.toList.drop 0 = dktX4_pass_0 := by decide +kernel
theorem dksX4_pass_1 : cX4_pass.data.toList.drop 24 = dktX4_pass_1 := dk_seg dksX4_pass_0 24 rfl rfl
theorem dksX4_pass_2 : cX4_pass.data.toList.drop 46 = dktX4_pass_2 := dk_seg dksX4_pass_1 22 rfl rfl
theorem dksX4_pass_3 : cX4_pass.data.toList.drop 70 = dktX4_pass_3 := dk_seg dksX4_pass_2 24 rfl rfl
theorem dksX4_pass_4 : cX4_pass.data.toList.drop 94 = dktX4_pass_4 := dk_seg dksX4_pass_3 24 rfl rfl
theorem dX4_pass_0 : decode cX4_pass 0 = .ok (.aload_n 0, 1) := dk_42 (dk_at dksX4_pass_0 0 rfl rfl)
theorem dX4_pass_1 : decode cX4_pass 1 = .ok (.iload_n 1, 1) := dk_27 (dk_at dksX4_pass_0 1 rfl rfl)
theorem dX4_pass_2 : decode cX4_pass 2 = .ok (.iconst 1, 1) := dk_4 (dk_at dksX4_pass_0 2 rfl rfl)
theorem dX4_pass_3 : decode cX4_pass 3 = .ok (.bipush 100, 2) := dk_16 100 (dk_at dksX4_pass_0 3 rfl rfl)
theorem dX4_pass_5 : decode cX4_pass 5 = .ok (.invokestatic 84, 3) := dk_184 0 84 (dk_at dksX4_pass_0 5 rfl rfl)
theorem dX4_pass_8 : decode cX4_pass 8 = .ok (.ifCond .ne 7, 3) := dk_154 0 7 (dk_at dksX4_pass_0 8 rfl rfl)
theorem dX4_pass_11 : decode cX4_pass 11 = .ok (.iconst 1, 1) := dk_4 (dk_at dksX4_pass_0 11 rfl rfl)
theorem dX4_pass_12 : decode cX4_pass 12 = .ok (.goto 20, 3) := dk_167 0 20 (dk_at dksX4_pass_0 12 rfl rfl)
theorem dX4_pass_15 : decode cX4_pass 15 = .ok (.aload_n 0, 1) := dk_42 (dk_at dksX4_pass_0 15 rfl rfl)
theorem dX4_pass_16 : decode cX4_pass 16 = .ok (.getfield 171, 3) := dk_180 0 171 (dk_at dksX4_pass_0 16 rfl rfl)
theorem dX4_pass_19 : decode cX4_pass 19 = .ok (.iload_n 1, 1) := dk_27 (dk_at dksX4_pass_0 19 rfl rfl)
theorem dX4_pass_20 : decode cX4_pass 20 = .ok (.iadd, 1) := dk_96 (dk_at dksX4_pass_0 20 rfl rfl)
theorem dX4_pass_21 : decode cX4_pass 21 = .ok (.sipush 10000, 3) := dk_17 39 16 (dk_at dksX4_pass_0 21 rfl rfl)
theorem dX4_pass_24 : decode cX4_pass 24 = .ok (.if_icmp .le 7, 3) := dk_164 0 7 (dk_at dksX4_pass_1 0 rfl rfl)
theorem dX4_pass_27 : decode cX4_pass 27 = .ok (.iconst 2, 1) := dk_5 (dk_at dksX4_pass_1 3 rfl rfl)
theorem dX4_pass_28 : decode cX4_pass 28 = .ok (.goto 4, 3) := dk_167 0 4 (dk_at dksX4_pass_1 4 rfl rfl)
theorem dX4_pass_31 : decode cX4_pass 31 = .ok (.iconst 0, 1) := dk_3 (dk_at dksX4_pass_1 7 rfl rfl)
theorem dX4_pass_32 : decode cX4_pass 32 = .ok (.putfield 80, 3) := dk_181 0 80 (dk_at dksX4_pass_1 8 rfl rfl)
theorem dX4_pass_35 : decode cX4_pass 35 = .ok (.aload_n 0, 1) := dk_42 (dk_at dksX4_pass_1 11 rfl rfl)
theorem dX4_pass_36 : decode cX4_pass 36 = .ok (.getfield 80, 3) := dk_180 0 80 (dk_at dksX4_pass_1 12 rfl rfl)
theorem dX4_pass_39 : decode cX4_pass 39 = .ok (.ifCond .le 5, 3) := dk_158 0 5 (dk_at dksX4_pass_1 15 rfl rfl)
theorem dX4_pass_42 : decode cX4_pass 42 = .ok (.iconst 0, 1) := dk_3 (dk_at dksX4_pass_1 18 rfl rfl)
theorem dX4_pass_43 : decode cX4_pass 43 = .ok (.ireturn, 1) := dk_172 (dk_at dksX4_pass_1 19 rfl rfl)
theorem dX4_pass_44 : decode cX4_pass 44 = .ok (.aload_n 0, 1) := dk_42 (dk_at dksX4_pass_1 20 rfl rfl)
theorem dX4_pass_45 : decode cX4_pass 45 = .ok (.dup, 1) := dk_89 (dk_at dksX4_pass_1 21 rfl rfl)
theorem dX4_pass_46 : decode cX4_pass 46 = .ok (.getfield 171, 3) := dk_180 0 171 (dk_at dksX4_pass_2 0 rfl rfl)
theorem dX4_pass_49 : decode cX4_pass 49 = .ok (.iload_n 1, 1) := dk_27 (dk_at dksX4_pass_2 3 rfl rfl)
theorem dX4_pass_50 : decode cX4_pass 50 = .ok (.iadd, 1) := dk_96 (dk_at dksX4_pass_2 4 rfl rfl)
theorem dX4_pass_51 : decode cX4_pass 51 = .ok (.putfield 171, 3) := dk_181 0 171 (dk_at dksX4_pass_2 5 rfl rfl)
theorem dX4_pass_54 : decode cX4_pass 54 = .ok (.iconst 0, 1) := dk_3 (dk_at dksX4_pass_2 8 rfl rfl)
theorem dX4_pass_55 : decode cX4_pass 55 = .ok (.istore_n 2, 1) := dk_61 (dk_at dksX4_pass_2 9 rfl rfl)
theorem dX4_pass_56 : decode cX4_pass 56 = .ok (.iconst 0, 1) := dk_3 (dk_at dksX4_pass_2 10 rfl rfl)
theorem dX4_pass_57 : decode cX4_pass 57 = .ok (.istore_n 3, 1) := dk_62 (dk_at dksX4_pass_2 11 rfl rfl)
theorem dX4_pass_58 : decode cX4_pass 58 = .ok (.iload_n 3, 1) := dk_29 (dk_at dksX4_pass_2 12 rfl rfl)
theorem dX4_pass_59 : decode cX4_pass 59 = .ok (.aload_n 0, 1) := dk_42 (dk_at dksX4_pass_2 13 rfl rfl)
theorem dX4_pass_60 : decode cX4_pass 60 = .ok (.getfield 122, 3) := dk_180 0 122 (dk_at dksX4_pass_2 14 rfl rfl)
theorem dX4_pass_63 : decode cX4_pass 63 = .ok (.if_icmp .ge 42, 3) := dk_162 0 42 (dk_at dksX4_pass_2 17 rfl rfl)
theorem dX4_pass_66 : decode cX4_pass 66 = .ok (.aload_n 0, 1) := dk_42 (dk_at dksX4_pass_2 20 rfl rfl)
theorem dX4_pass_67 : decode cX4_pass 67 = .ok (.getfield 47, 3) := dk_180 0 47 (dk_at dksX4_pass_2 21 rfl rfl)
theorem dX4_pass_70 : decode cX4_pass 70 = .ok (.iload_n 3, 1) := dk_29 (dk_at dksX4_pass_3 0 rfl rfl)
theorem dX4_pass_71 : decode cX4_pass 71 = .ok (.iaload, 1) := dk_46 (dk_at dksX4_pass_3 1 rfl rfl)
theorem dX4_pass_72 : decode cX4_pass 72 = .ok (.iconst 1, 1) := dk_4 (dk_at dksX4_pass_3 2 rfl rfl)
theorem dX4_pass_73 : decode cX4_pass 73 = .ok (.if_icmp .ne 26, 3) := dk_160 0 26 (dk_at dksX4_pass_3 3 rfl rfl)
theorem dX4_pass_76 : decode cX4_pass 76 = .ok (.aload_n 0, 1) := dk_42 (dk_at dksX4_pass_3 6 rfl rfl)
theorem dX4_pass_77 : decode cX4_pass 77 = .ok (.getfield 59, 3) := dk_180 0 59 (dk_at dksX4_pass_3 7 rfl rfl)
theorem dX4_pass_80 : decode cX4_pass 80 = .ok (.iload_n 3, 1) := dk_29 (dk_at dksX4_pass_3 10 rfl rfl)
theorem dX4_pass_81 : decode cX4_pass 81 = .ok (.iaload, 1) := dk_46 (dk_at dksX4_pass_3 11 rfl rfl)
theorem dX4_pass_82 : decode cX4_pass 82 = .ok (.aload_n 0, 1) := dk_42 (dk_at dksX4_pass_3 12 rfl rfl)
theorem dX4_pass_83 : decode cX4_pass 83 = .ok (.getfield 171, 3) := dk_180 0 171 (dk_at dksX4_pass_3 13 rfl rfl)
theorem dX4_pass_86 : decode cX4_pass 86 = .ok (.if_icmp .gt 13, 3) := dk_163 0 13 (dk_at dksX4_pass_3 16 rfl rfl)
theorem dX4_pass_89 : decode cX4_pass 89 = .ok (.aload_n 0, 1) := dk_42 (dk_at dksX4_pass_3 19 rfl rfl)
theorem dX4_pass_90 : decode cX4_pass 90 = .ok (.getfield 47, 3) := dk_180 0 47 (dk_at dksX4_pass_3 20 rfl rfl)
theorem dX4_pass_93 : decode cX4_pass 93 = .ok (.iload_n 3, 1) := dk_29 (dk_at dksX4_pass_3 23 rfl rfl)
theorem dX4_pass_94 : decode cX4_pass 94 = .ok (.iconst 5, 1) := dk_8 (dk_at dksX4_pass_4 0 rfl rfl)
theorem dX4_pass_95 : decode cX4_pass 95 = .ok (.iastore, 1) := dk_79 (dk_at dksX4_pass_4 1 rfl rfl)
theorem dX4_pass_96 : decode cX4_pass 96 = .ok (.iinc 2 1, 3) := dk_132 2 1 (dk_at dksX4_pass_4 2 rfl rfl)
theorem dX4_pass_99 : decode cX4_pass 99 = .ok (.iinc 3 1, 3) := dk_132 3 1 (dk_at dksX4_pass_4 5 rfl rfl)
theorem dX4_pass_102 : decode cX4_pass 102 = .ok (.goto (-44), 3) := dk_167 255 212 (dk_at dksX4_pass_4 8 rfl rfl)
theorem dX4_pass_105 : decode cX4_pass 105 = .ok (.iload_n 2, 1) := dk_28 (dk_at dksX4_pass_4 11 rfl rfl)
theorem dX4_pass_106 : decode cX4_pass 106 = .ok (.ireturn, 1) := dk_172 (dk_at dksX4_pass_4 12 rfl rfl)
abbrev cX4_bookings : ByteArray := prog_19_method_49_code
def yX4_bookings : MethodName := ⟨RX4, "bookings", "()I"⟩
def dkwX4_bookings_0 : List UInt8 := [42, 3, 181, 0, 80, 42, 180, 0, 122, 172]
abbrev dktX4_bookings_0 : List UInt8 := dkwX4_bookings_0 ++ []
theorem dksX4_bookings_0 : cX4_bookings.data.toList.drop 0 = dktX4_bookings_0 := by decide +kernel
theorem dX4_bookings_0 : decode cX4_bookings 0 = .ok (.aload_n 0, 1) := dk_42 (dk_at dksX4_bookings_0 0 rfl rfl)
theorem dX4_bookings_1 : decode cX4_bookings 1 = .ok (.iconst 0, 1) := dk_3 (dk_at dksX4_bookings_0 1 rfl rfl)
theorem dX4_bookings_2 : decode cX4_bookings 2 = .ok (.putfield 80, 3) := dk_181 0 80 (dk_at dksX4_bookings_0 2 rfl rfl)
theorem dX4_bookings_5 : decode cX4_bookings 5 = .ok (.aload_n 0, 1) := dk_42 (dk_at dksX4_bookings_0 5 rfl rfl)
theorem dX4_bookings_6 : decode cX4_bookings 6 = .ok (.getfield 122, 3) := dk_180 0 122 (dk_at dksX4_bookings_0 6 rfl rfl)
theorem dX4_bookings_9 : decode cX4_bookings 9 = .ok (.ireturn, 1) := dk_172 (dk_at dksX4_bookings_0 9 rfl rfl)
abbrev cX4_state : ByteArray := prog_19_method_51_code
def yX4_state : MethodName := ⟨RX4, "state", "(I)I"⟩
def dkwX4_state_0 : List UInt8 := [42, 27, 182, 0, 174, 153, 0, 12, 42, 180, 0, 47, 27, 46, 167, 0, 4, 3, 172]
abbrev dktX4_state_0 : List UInt8 := dkwX4_state_0 ++ []
theorem dksX4_state_0 : cX4_state.data.toList.drop 0 = dktX4_state_0 := by decide +kernel
theorem dX4_state_0 : decode cX4_state 0 = .ok (.aload_n 0, 1) := dk_42 (dk_at dksX4_state_0 0 rfl rfl)
theorem dX4_state_1 : decode cX4_state 1 = .ok (.iload_n 1, 1) := dk_27 (dk_at dksX4_state_0 1 rfl rfl)
theorem dX4_state_2 : decode cX4_state 2 = .ok (.invokevirtual 174, 3) := dk_182 0 174 (dk_at dksX4_state_0 2 rfl rfl)
theorem dX4_state_5 : decode cX4_state 5 = .ok (.ifCond .eq 12, 3) := dk_153 0 12 (dk_at dksX4_state_0 5 rfl rfl)
theorem dX4_state_8 : decode cX4_state 8 = .ok (.aload_n 0, 1) := dk_42 (dk_at dksX4_state_0 8 rfl rfl)
theorem dX4_state_9 : decode cX4_state 9 = .ok (.getfield 47, 3) := dk_180 0 47 (dk_at dksX4_state_0 9 rfl rfl)
theorem dX4_state_12 : decode cX4_state 12 = .ok (.iload_n 1, 1) := dk_27 (dk_at dksX4_state_0 12 rfl rfl)
theorem dX4_state_13 : decode cX4_state 13 = .ok (.iaload, 1) := dk_46 (dk_at dksX4_state_0 13 rfl rfl)
theorem dX4_state_14 : decode cX4_state 14 = .ok (.goto 4, 3) := dk_167 0 4 (dk_at dksX4_state_0 14 rfl rfl)
theorem dX4_state_17 : decode cX4_state 17 = .ok (.iconst 0, 1) := dk_3 (dk_at dksX4_state_0 17 rfl rfl)
theorem dX4_state_18 : decode cX4_state 18 = .ok (.ireturn, 1) := dk_172 (dk_at dksX4_state_0 18 rfl rfl)
abbrev cX4_asksBooking : ByteArray := prog_19_method_50_code
def yX4_asksBooking : MethodName := ⟨RX4, "asksBooking", "(I)Z"⟩
def dkwX4_asksBooking_1 : List UInt8 := [4, 167, 0, 4, 3, 172]
abbrev dktX4_asksBooking_1 : List UInt8 := dkwX4_asksBooking_1 ++ []
def dkwX4_asksBooking_0 : List UInt8 := [42, 42, 27, 182, 0, 158, 153, 0, 7, 3, 167, 0, 4, 4, 181, 0, 80, 42, 180, 0, 80, 154, 0, 7]
abbrev dktX4_asksBooking_0 : List UInt8 := dkwX4_asksBooking_0 ++ dktX4_asksBooking_1
theorem dksX4_asksBooking_0 : cX4_asksBooking.data.toList.drop 0 = dktX4_asksBooking_0 := by decide +kernel
theorem dksX4_asksBooking_1 : cX4_asksBooking.data.toList.drop 24 = dktX4_asksBooking_1 := dk_seg dksX4_asksBooking_0 24 rfl rfl
theorem dX4_asksBooking_0 : decode cX4_asksBooking 0 = .ok (.aload_n 0, 1) := dk_42 (dk_at dksX4_asksBooking_0 0 rfl rfl)
theorem dX4_asksBooking_1 : decode cX4_asksBooking 1 = .ok (.aload_n 0, 1) := dk_42 (dk_at dksX4_asksBooking_0 1 rfl rfl)
theorem dX4_asksBooking_2 : decode cX4_asksBooking 2 = .ok (.iload_n 1, 1) := dk_27 (dk_at dksX4_asksBooking_0 2 rfl rfl)
theorem dX4_asksBooking_3 : decode cX4_asksBooking 3 = .ok (.invokevirtual 158, 3) := dk_182 0 158 (dk_at dksX4_asksBooking_0 3 rfl rfl)
theorem dX4_asksBooking_6 : decode cX4_asksBooking 6 = .ok (.ifCond .eq 7, 3) := dk_153 0 7 (dk_at dksX4_asksBooking_0 6 rfl rfl)
theorem dX4_asksBooking_9 : decode cX4_asksBooking 9 = .ok (.iconst 0, 1) := dk_3 (dk_at dksX4_asksBooking_0 9 rfl rfl)
theorem dX4_asksBooking_10 : decode cX4_asksBooking 10 = .ok (.goto 4, 3) := dk_167 0 4 (dk_at dksX4_asksBooking_0 10 rfl rfl)
theorem dX4_asksBooking_13 : decode cX4_asksBooking 13 = .ok (.iconst 1, 1) := dk_4 (dk_at dksX4_asksBooking_0 13 rfl rfl)
theorem dX4_asksBooking_14 : decode cX4_asksBooking 14 = .ok (.putfield 80, 3) := dk_181 0 80 (dk_at dksX4_asksBooking_0 14 rfl rfl)
theorem dX4_asksBooking_17 : decode cX4_asksBooking 17 = .ok (.aload_n 0, 1) := dk_42 (dk_at dksX4_asksBooking_0 17 rfl rfl)
theorem dX4_asksBooking_18 : decode cX4_asksBooking 18 = .ok (.getfield 80, 3) := dk_180 0 80 (dk_at dksX4_asksBooking_0 18 rfl rfl)
theorem dX4_asksBooking_21 : decode cX4_asksBooking 21 = .ok (.ifCond .ne 7, 3) := dk_154 0 7 (dk_at dksX4_asksBooking_0 21 rfl rfl)
theorem dX4_asksBooking_24 : decode cX4_asksBooking 24 = .ok (.iconst 1, 1) := dk_4 (dk_at dksX4_asksBooking_1 0 rfl rfl)
theorem dX4_asksBooking_25 : decode cX4_asksBooking 25 = .ok (.goto 4, 3) := dk_167 0 4 (dk_at dksX4_asksBooking_1 1 rfl rfl)
theorem dX4_asksBooking_28 : decode cX4_asksBooking 28 = .ok (.iconst 0, 1) := dk_3 (dk_at dksX4_asksBooking_1 4 rfl rfl)
theorem dX4_asksBooking_29 : decode cX4_asksBooking 29 = .ok (.ireturn, 1) := dk_172 (dk_at dksX4_asksBooking_1 5 rfl rfl)
abbrev cX4_wagons : ByteArray := prog_19_method_52_code
def yX4_wagons : MethodName := ⟨RX4, "wagons", "(I)I"⟩
def dkwX4_wagons_0 : List UInt8 := [42, 27, 182, 0, 174, 153, 0, 12, 42, 180, 0, 62, 27, 46, 167, 0, 4, 3, 172]
abbrev dktX4_wagons_0 : List UInt8 := dkwX4_wagons_0 ++ []
theorem dksX4_wagons_0 : cX4_wagons.data.toList.drop 0 = dktX4_wagons_0 := by decide +kernel
theorem dX4_wagons_0 : decode cX4_wagons 0 = .ok (.aload_n 0, 1) := dk_42 (dk_at dksX4_wagons_0 0 rfl rfl)
theorem dX4_wagons_1 : decode cX4_wagons 1 = .ok (.iload_n 1, 1) := dk_27 (dk_at dksX4_wagons_0 1 rfl rfl)
theorem dX4_wagons_2 : decode cX4_wagons 2 = .ok (.invokevirtual 174, 3) := dk_182 0 174 (dk_at dksX4_wagons_0 2 rfl rfl)
theorem dX4_wagons_5 : decode cX4_wagons 5 = .ok (.ifCond .eq 12, 3) := dk_153 0 12 (dk_at dksX4_wagons_0 5 rfl rfl)
theorem dX4_wagons_8 : decode cX4_wagons 8 = .ok (.aload_n 0, 1) := dk_42 (dk_at dksX4_wagons_0 8 rfl rfl)
theorem dX4_wagons_9 : decode cX4_wagons 9 = .ok (.getfield 62, 3) := dk_180 0 62 (dk_at dksX4_wagons_0 9 rfl rfl)
theorem dX4_wagons_12 : decode cX4_wagons 12 = .ok (.iload_n 1, 1) := dk_27 (dk_at dksX4_wagons_0 12 rfl rfl)
theorem dX4_wagons_13 : decode cX4_wagons 13 = .ok (.iaload, 1) := dk_46 (dk_at dksX4_wagons_0 13 rfl rfl)
theorem dX4_wagons_14 : decode cX4_wagons 14 = .ok (.goto 4, 3) := dk_167 0 4 (dk_at dksX4_wagons_0 14 rfl rfl)
theorem dX4_wagons_17 : decode cX4_wagons 17 = .ok (.iconst 0, 1) := dk_3 (dk_at dksX4_wagons_0 17 rfl rfl)
theorem dX4_wagons_18 : decode cX4_wagons 18 = .ok (.ireturn, 1) := dk_172 (dk_at dksX4_wagons_0 18 rfl rfl)
abbrev cX4_wagonOf : ByteArray := prog_19_method_53_code
def yX4_wagonOf : MethodName := ⟨RX4, "wagonOf", "(II)I"⟩
def dkwX4_wagonOf_2 : List UInt8 := [180, 0, 65, 16, 30, 27, 104, 28, 96, 46, 172]
abbrev dktX4_wagonOf_2 : List UInt8 := dkwX4_wagonOf_2 ++ []
def dkwX4_wagonOf_1 : List UInt8 := [153, 0, 7, 3, 167, 0, 4, 4, 181, 0, 80, 42, 180, 0, 80, 158, 0, 7, 3, 167, 0, 14, 42]
abbrev dktX4_wagonOf_1 : List UInt8 := dkwX4_wagonOf_1 ++ dktX4_wagonOf_2
def dkwX4_wagonOf_0 : List UInt8 := [42, 42, 27, 182, 0, 158, 153, 0, 23, 28, 3, 42, 180, 0, 62, 27, 46, 4, 100, 184, 0, 84]
abbrev dktX4_wagonOf_0 : List UInt8 := dkwX4_wagonOf_0 ++ dktX4_wagonOf_1
theorem dksX4_wagonOf_0 : cX4_wagonOf.data.toList.drop 0 = dktX4_wagonOf_0 := by decide +kernel
theorem dksX4_wagonOf_1 : cX4_wagonOf.data.toList.drop 22 = dktX4_wagonOf_1 := dk_seg dksX4_wagonOf_0 22 rfl rfl
theorem dksX4_wagonOf_2 : cX4_wagonOf.data.toList.drop 45 = dktX4_wagonOf_2 := dk_seg dksX4_wagonOf_1 23 rfl rfl
theorem dX4_wagonOf_0 : decode cX4_wagonOf 0 = .ok (.aload_n 0, 1) := dk_42 (dk_at dksX4_wagonOf_0 0 rfl rfl)
theorem dX4_wagonOf_1 : decode cX4_wagonOf 1 = .ok (.aload_n 0, 1) := dk_42 (dk_at dksX4_wagonOf_0 1 rfl rfl)
theorem dX4_wagonOf_2 : decode cX4_wagonOf 2 = .ok (.iload_n 1, 1) := dk_27 (dk_at dksX4_wagonOf_0 2 rfl rfl)
theorem dX4_wagonOf_3 : decode cX4_wagonOf 3 = .ok (.invokevirtual 158, 3) := dk_182 0 158 (dk_at dksX4_wagonOf_0 3 rfl rfl)
theorem dX4_wagonOf_6 : decode cX4_wagonOf 6 = .ok (.ifCond .eq 23, 3) := dk_153 0 23 (dk_at dksX4_wagonOf_0 6 rfl rfl)
theorem dX4_wagonOf_9 : decode cX4_wagonOf 9 = .ok (.iload_n 2, 1) := dk_28 (dk_at dksX4_wagonOf_0 9 rfl rfl)
theorem dX4_wagonOf_10 : decode cX4_wagonOf 10 = .ok (.iconst 0, 1) := dk_3 (dk_at dksX4_wagonOf_0 10 rfl rfl)
theorem dX4_wagonOf_11 : decode cX4_wagonOf 11 = .ok (.aload_n 0, 1) := dk_42 (dk_at dksX4_wagonOf_0 11 rfl rfl)
theorem dX4_wagonOf_12 : decode cX4_wagonOf 12 = .ok (.getfield 62, 3) := dk_180 0 62 (dk_at dksX4_wagonOf_0 12 rfl rfl)
theorem dX4_wagonOf_15 : decode cX4_wagonOf 15 = .ok (.iload_n 1, 1) := dk_27 (dk_at dksX4_wagonOf_0 15 rfl rfl)
theorem dX4_wagonOf_16 : decode cX4_wagonOf 16 = .ok (.iaload, 1) := dk_46 (dk_at dksX4_wagonOf_0 16 rfl rfl)
theorem dX4_wagonOf_17 : decode cX4_wagonOf 17 = .ok (.iconst 1, 1) := dk_4 (dk_at dksX4_wagonOf_0 17 rfl rfl)
theorem dX4_wagonOf_18 : decode cX4_wagonOf 18 = .ok (.isub, 1) := dk_100 (dk_at dksX4_wagonOf_0 18 rfl rfl)
theorem dX4_wagonOf_19 : decode cX4_wagonOf 19 = .ok (.invokestatic 84, 3) := dk_184 0 84 (dk_at dksX4_wagonOf_0 19 rfl rfl)
theorem dX4_wagonOf_22 : decode cX4_wagonOf 22 = .ok (.ifCond .eq 7, 3) := dk_153 0 7 (dk_at dksX4_wagonOf_1 0 rfl rfl)
theorem dX4_wagonOf_25 : decode cX4_wagonOf 25 = .ok (.iconst 0, 1) := dk_3 (dk_at dksX4_wagonOf_1 3 rfl rfl)
theorem dX4_wagonOf_26 : decode cX4_wagonOf 26 = .ok (.goto 4, 3) := dk_167 0 4 (dk_at dksX4_wagonOf_1 4 rfl rfl)
theorem dX4_wagonOf_29 : decode cX4_wagonOf 29 = .ok (.iconst 1, 1) := dk_4 (dk_at dksX4_wagonOf_1 7 rfl rfl)
theorem dX4_wagonOf_30 : decode cX4_wagonOf 30 = .ok (.putfield 80, 3) := dk_181 0 80 (dk_at dksX4_wagonOf_1 8 rfl rfl)
theorem dX4_wagonOf_33 : decode cX4_wagonOf 33 = .ok (.aload_n 0, 1) := dk_42 (dk_at dksX4_wagonOf_1 11 rfl rfl)
theorem dX4_wagonOf_34 : decode cX4_wagonOf 34 = .ok (.getfield 80, 3) := dk_180 0 80 (dk_at dksX4_wagonOf_1 12 rfl rfl)
theorem dX4_wagonOf_37 : decode cX4_wagonOf 37 = .ok (.ifCond .le 7, 3) := dk_158 0 7 (dk_at dksX4_wagonOf_1 15 rfl rfl)
theorem dX4_wagonOf_40 : decode cX4_wagonOf 40 = .ok (.iconst 0, 1) := dk_3 (dk_at dksX4_wagonOf_1 18 rfl rfl)
theorem dX4_wagonOf_41 : decode cX4_wagonOf 41 = .ok (.goto 14, 3) := dk_167 0 14 (dk_at dksX4_wagonOf_1 19 rfl rfl)
theorem dX4_wagonOf_44 : decode cX4_wagonOf 44 = .ok (.aload_n 0, 1) := dk_42 (dk_at dksX4_wagonOf_1 22 rfl rfl)
theorem dX4_wagonOf_45 : decode cX4_wagonOf 45 = .ok (.getfield 65, 3) := dk_180 0 65 (dk_at dksX4_wagonOf_2 0 rfl rfl)
theorem dX4_wagonOf_48 : decode cX4_wagonOf 48 = .ok (.bipush 30, 2) := dk_16 30 (dk_at dksX4_wagonOf_2 3 rfl rfl)
theorem dX4_wagonOf_50 : decode cX4_wagonOf 50 = .ok (.iload_n 1, 1) := dk_27 (dk_at dksX4_wagonOf_2 5 rfl rfl)
theorem dX4_wagonOf_51 : decode cX4_wagonOf 51 = .ok (.imul, 1) := dk_104 (dk_at dksX4_wagonOf_2 6 rfl rfl)
theorem dX4_wagonOf_52 : decode cX4_wagonOf 52 = .ok (.iload_n 2, 1) := dk_28 (dk_at dksX4_wagonOf_2 7 rfl rfl)
theorem dX4_wagonOf_53 : decode cX4_wagonOf 53 = .ok (.iadd, 1) := dk_96 (dk_at dksX4_wagonOf_2 8 rfl rfl)
theorem dX4_wagonOf_54 : decode cX4_wagonOf 54 = .ok (.iaload, 1) := dk_46 (dk_at dksX4_wagonOf_2 9 rfl rfl)
theorem dX4_wagonOf_55 : decode cX4_wagonOf 55 = .ok (.ireturn, 1) := dk_172 (dk_at dksX4_wagonOf_2 10 rfl rfl)
abbrev cX4_lapses : ByteArray := prog_19_method_54_code
def yX4_lapses : MethodName := ⟨RX4, "lapses", "(I)I"⟩
def dkwX4_lapses_2 : List UInt8 := [42, 180, 0, 171, 100, 172]
abbrev dktX4_lapses_2 : List UInt8 := dkwX4_lapses_2 ++ []
def dkwX4_lapses_1 : List UInt8 := [167, 0, 4, 5, 181, 0, 80, 42, 180, 0, 80, 158, 0, 7, 3, 167, 0, 14, 42, 180, 0, 59, 27, 46]
abbrev dktX4_lapses_1 : List UInt8 := dkwX4_lapses_1 ++ dktX4_lapses_2
def dkwX4_lapses_0 : List UInt8 := [42, 42, 27, 182, 0, 158, 154, 0, 7, 4, 167, 0, 18, 42, 180, 0, 47, 27, 46, 4, 160, 0, 7, 3]
abbrev dktX4_lapses_0 : List UInt8 := dkwX4_lapses_0 ++ dktX4_lapses_1
theorem dksX4_lapses_0 : cX4_lapses.data.toList.drop 0 = dktX4_lapses_0 := by decide +kernel
theorem dksX4_lapses_1 : cX4_lapses.data.toList.drop 24 = dktX4_lapses_1 := dk_seg dksX4_lapses_0 24 rfl rfl
theorem dksX4_lapses_2 : cX4_lapses.data.toList.drop 48 = dktX4_lapses_2 := dk_seg dksX4_lapses_1 24 rfl rfl
theorem dX4_lapses_0 : decode cX4_lapses 0 = .ok (.aload_n 0, 1) := dk_42 (dk_at dksX4_lapses_0 0 rfl rfl)
theorem dX4_lapses_1 : decode cX4_lapses 1 = .ok (.aload_n 0, 1) := dk_42 (dk_at dksX4_lapses_0 1 rfl rfl)
theorem dX4_lapses_2 : decode cX4_lapses 2 = .ok (.iload_n 1, 1) := dk_27 (dk_at dksX4_lapses_0 2 rfl rfl)
theorem dX4_lapses_3 : decode cX4_lapses 3 = .ok (.invokevirtual 158, 3) := dk_182 0 158 (dk_at dksX4_lapses_0 3 rfl rfl)
theorem dX4_lapses_6 : decode cX4_lapses 6 = .ok (.ifCond .ne 7, 3) := dk_154 0 7 (dk_at dksX4_lapses_0 6 rfl rfl)
theorem dX4_lapses_9 : decode cX4_lapses 9 = .ok (.iconst 1, 1) := dk_4 (dk_at dksX4_lapses_0 9 rfl rfl)
theorem dX4_lapses_10 : decode cX4_lapses 10 = .ok (.goto 18, 3) := dk_167 0 18 (dk_at dksX4_lapses_0 10 rfl rfl)
theorem dX4_lapses_13 : decode cX4_lapses 13 = .ok (.aload_n 0, 1) := dk_42 (dk_at dksX4_lapses_0 13 rfl rfl)
theorem dX4_lapses_14 : decode cX4_lapses 14 = .ok (.getfield 47, 3) := dk_180 0 47 (dk_at dksX4_lapses_0 14 rfl rfl)
theorem dX4_lapses_17 : decode cX4_lapses 17 = .ok (.iload_n 1, 1) := dk_27 (dk_at dksX4_lapses_0 17 rfl rfl)
theorem dX4_lapses_18 : decode cX4_lapses 18 = .ok (.iaload, 1) := dk_46 (dk_at dksX4_lapses_0 18 rfl rfl)
theorem dX4_lapses_19 : decode cX4_lapses 19 = .ok (.iconst 1, 1) := dk_4 (dk_at dksX4_lapses_0 19 rfl rfl)
theorem dX4_lapses_20 : decode cX4_lapses 20 = .ok (.if_icmp .ne 7, 3) := dk_160 0 7 (dk_at dksX4_lapses_0 20 rfl rfl)
theorem dX4_lapses_23 : decode cX4_lapses 23 = .ok (.iconst 0, 1) := dk_3 (dk_at dksX4_lapses_0 23 rfl rfl)
theorem dX4_lapses_24 : decode cX4_lapses 24 = .ok (.goto 4, 3) := dk_167 0 4 (dk_at dksX4_lapses_1 0 rfl rfl)
theorem dX4_lapses_27 : decode cX4_lapses 27 = .ok (.iconst 2, 1) := dk_5 (dk_at dksX4_lapses_1 3 rfl rfl)
theorem dX4_lapses_28 : decode cX4_lapses 28 = .ok (.putfield 80, 3) := dk_181 0 80 (dk_at dksX4_lapses_1 4 rfl rfl)
theorem dX4_lapses_31 : decode cX4_lapses 31 = .ok (.aload_n 0, 1) := dk_42 (dk_at dksX4_lapses_1 7 rfl rfl)
theorem dX4_lapses_32 : decode cX4_lapses 32 = .ok (.getfield 80, 3) := dk_180 0 80 (dk_at dksX4_lapses_1 8 rfl rfl)
theorem dX4_lapses_35 : decode cX4_lapses 35 = .ok (.ifCond .le 7, 3) := dk_158 0 7 (dk_at dksX4_lapses_1 11 rfl rfl)
theorem dX4_lapses_38 : decode cX4_lapses 38 = .ok (.iconst 0, 1) := dk_3 (dk_at dksX4_lapses_1 14 rfl rfl)
theorem dX4_lapses_39 : decode cX4_lapses 39 = .ok (.goto 14, 3) := dk_167 0 14 (dk_at dksX4_lapses_1 15 rfl rfl)
theorem dX4_lapses_42 : decode cX4_lapses 42 = .ok (.aload_n 0, 1) := dk_42 (dk_at dksX4_lapses_1 18 rfl rfl)
theorem dX4_lapses_43 : decode cX4_lapses 43 = .ok (.getfield 59, 3) := dk_180 0 59 (dk_at dksX4_lapses_1 19 rfl rfl)
theorem dX4_lapses_46 : decode cX4_lapses 46 = .ok (.iload_n 1, 1) := dk_27 (dk_at dksX4_lapses_1 22 rfl rfl)
theorem dX4_lapses_47 : decode cX4_lapses 47 = .ok (.iaload, 1) := dk_46 (dk_at dksX4_lapses_1 23 rfl rfl)
theorem dX4_lapses_48 : decode cX4_lapses 48 = .ok (.aload_n 0, 1) := dk_42 (dk_at dksX4_lapses_2 0 rfl rfl)
theorem dX4_lapses_49 : decode cX4_lapses 49 = .ok (.getfield 171, 3) := dk_180 0 171 (dk_at dksX4_lapses_2 1 rfl rfl)
theorem dX4_lapses_52 : decode cX4_lapses 52 = .ok (.isub, 1) := dk_100 (dk_at dksX4_lapses_2 4 rfl rfl)
theorem dX4_lapses_53 : decode cX4_lapses 53 = .ok (.ireturn, 1) := dk_172 (dk_at dksX4_lapses_2 5 rfl rfl)
abbrev cX4_depart : ByteArray := prog_19_method_57_code
def yX4_depart : MethodName := ⟨RX4, "depart", "(III)I"⟩
def dkwX4_depart_8 : List UInt8 := [180, 0, 183, 4, 96, 181, 0, 183, 42, 180, 0, 183, 4, 100, 172]
abbrev dktX4_depart_8 : List UInt8 := dkwX4_depart_8 ++ []
def dkwX4_depart_7 : List UInt8 := [21, 4, 46, 79, 42, 180, 0, 19, 21, 4, 3, 79, 42, 180, 0, 68, 42, 180, 0, 183, 29, 79, 42, 89]
abbrev dktX4_depart_7 : List UInt8 := dkwX4_depart_7 ++ dktX4_depart_8
def dkwX4_depart_6 : List UInt8 := [21, 6, 46, 6, 79, 132, 5, 1, 167, 255, 169, 42, 180, 0, 74, 42, 180, 0, 183, 42, 180, 0, 19]
abbrev dktX4_depart_6 : List UInt8 := dkwX4_depart_6 ++ dktX4_depart_7
def dkwX4_depart_5 : List UInt8 := [21, 6, 42, 180, 0, 50, 42, 180, 0, 16, 21, 6, 46, 46, 79, 42, 180, 0, 47, 42, 180, 0, 16]
abbrev dktX4_depart_5 : List UInt8 := dkwX4_depart_5 ++ dktX4_depart_6
def dkwX4_depart_4 : List UInt8 := [42, 180, 0, 183, 104, 21, 5, 96, 21, 6, 79, 42, 180, 0, 7, 21, 6, 2, 79, 42, 180, 0, 13]
abbrev dktX4_depart_4 : List UInt8 := dkwX4_depart_4 ++ dktX4_depart_5
def dkwX4_depart_3 : List UInt8 := [162, 0, 81, 42, 180, 0, 22, 16, 6, 21, 4, 104, 21, 5, 96, 46, 54, 6, 42, 180, 0, 77, 16, 6]
abbrev dktX4_depart_3 : List UInt8 := dkwX4_depart_3 ++ dktX4_depart_4
def dkwX4_depart_2 : List UInt8 := [158, 0, 5, 3, 172, 8, 27, 104, 28, 96, 54, 4, 3, 54, 5, 21, 5, 42, 180, 0, 19, 21, 4, 46]
abbrev dktX4_depart_2 : List UInt8 := dkwX4_depart_2 ++ dktX4_depart_3
def dkwX4_depart_1 : List UInt8 := [167, 0, 17, 42, 27, 28, 182, 0, 180, 153, 0, 7, 3, 167, 0, 4, 5, 181, 0, 80, 42, 180, 0, 80]
abbrev dktX4_depart_1 : List UInt8 := dkwX4_depart_1 ++ dktX4_depart_2
def dkwX4_depart_0 : List UInt8 := [42, 27, 28, 184, 0, 95, 153, 0, 15, 29, 184, 0, 88, 153, 0, 8, 27, 29, 160, 0, 7, 4]
abbrev dktX4_depart_0 : List UInt8 := dkwX4_depart_0 ++ dktX4_depart_1
theorem dksX4_depart_0 : cX4_depart.data.toList.drop 0 = dktX4_depart_0 := by decide +kernel
theorem dksX4_depart_1 : cX4_depart.data.toList.drop 22 = dktX4_depart_1 := dk_seg dksX4_depart_0 22 rfl rfl
theorem dksX4_depart_2 : cX4_depart.data.toList.drop 46 = dktX4_depart_2 := dk_seg dksX4_depart_1 24 rfl rfl
theorem dksX4_depart_3 : cX4_depart.data.toList.drop 70 = dktX4_depart_3 := dk_seg dksX4_depart_2 24 rfl rfl
theorem dksX4_depart_4 : cX4_depart.data.toList.drop 94 = dktX4_depart_4 := dk_seg dksX4_depart_3 24 rfl rfl
theorem dksX4_depart_5 : cX4_depart.data.toList.drop 117 = dktX4_depart_5 := dk_seg dksX4_depart_4 23 rfl rfl
theorem dksX4_depart_6 : cX4_depart.data.toList.drop 140 = dktX4_depart_6 := dk_seg dksX4_depart_5 23 rfl rfl
theorem dksX4_depart_7 : cX4_depart.data.toList.drop 163 = dktX4_depart_7 := dk_seg dksX4_depart_6 23 rfl rfl
theorem dksX4_depart_8 : cX4_depart.data.toList.drop 187 = dktX4_depart_8 := dk_seg dksX4_depart_7 24 rfl rfl
theorem dX4_depart_0 : decode cX4_depart 0 = .ok (.aload_n 0, 1) := dk_42 (dk_at dksX4_depart_0 0 rfl rfl)
theorem dX4_depart_1 : decode cX4_depart 1 = .ok (.iload_n 1, 1) := dk_27 (dk_at dksX4_depart_0 1 rfl rfl)
theorem dX4_depart_2 : decode cX4_depart 2 = .ok (.iload_n 2, 1) := dk_28 (dk_at dksX4_depart_0 2 rfl rfl)
theorem dX4_depart_3 : decode cX4_depart 3 = .ok (.invokestatic 95, 3) := dk_184 0 95 (dk_at dksX4_depart_0 3 rfl rfl)
theorem dX4_depart_6 : decode cX4_depart 6 = .ok (.ifCond .eq 15, 3) := dk_153 0 15 (dk_at dksX4_depart_0 6 rfl rfl)
theorem dX4_depart_9 : decode cX4_depart 9 = .ok (.iload_n 3, 1) := dk_29 (dk_at dksX4_depart_0 9 rfl rfl)
theorem dX4_depart_10 : decode cX4_depart 10 = .ok (.invokestatic 88, 3) := dk_184 0 88 (dk_at dksX4_depart_0 10 rfl rfl)
theorem dX4_depart_13 : decode cX4_depart 13 = .ok (.ifCond .eq 8, 3) := dk_153 0 8 (dk_at dksX4_depart_0 13 rfl rfl)
theorem dX4_depart_16 : decode cX4_depart 16 = .ok (.iload_n 1, 1) := dk_27 (dk_at dksX4_depart_0 16 rfl rfl)
theorem dX4_depart_17 : decode cX4_depart 17 = .ok (.iload_n 3, 1) := dk_29 (dk_at dksX4_depart_0 17 rfl rfl)
theorem dX4_depart_18 : decode cX4_depart 18 = .ok (.if_icmp .ne 7, 3) := dk_160 0 7 (dk_at dksX4_depart_0 18 rfl rfl)
theorem dX4_depart_21 : decode cX4_depart 21 = .ok (.iconst 1, 1) := dk_4 (dk_at dksX4_depart_0 21 rfl rfl)
theorem dX4_depart_22 : decode cX4_depart 22 = .ok (.goto 17, 3) := dk_167 0 17 (dk_at dksX4_depart_1 0 rfl rfl)
theorem dX4_depart_25 : decode cX4_depart 25 = .ok (.aload_n 0, 1) := dk_42 (dk_at dksX4_depart_1 3 rfl rfl)
theorem dX4_depart_26 : decode cX4_depart 26 = .ok (.iload_n 1, 1) := dk_27 (dk_at dksX4_depart_1 4 rfl rfl)
theorem dX4_depart_27 : decode cX4_depart 27 = .ok (.iload_n 2, 1) := dk_28 (dk_at dksX4_depart_1 5 rfl rfl)
theorem dX4_depart_28 : decode cX4_depart 28 = .ok (.invokevirtual 180, 3) := dk_182 0 180 (dk_at dksX4_depart_1 6 rfl rfl)
theorem dX4_depart_31 : decode cX4_depart 31 = .ok (.ifCond .eq 7, 3) := dk_153 0 7 (dk_at dksX4_depart_1 9 rfl rfl)
theorem dX4_depart_34 : decode cX4_depart 34 = .ok (.iconst 0, 1) := dk_3 (dk_at dksX4_depart_1 12 rfl rfl)
theorem dX4_depart_35 : decode cX4_depart 35 = .ok (.goto 4, 3) := dk_167 0 4 (dk_at dksX4_depart_1 13 rfl rfl)
theorem dX4_depart_38 : decode cX4_depart 38 = .ok (.iconst 2, 1) := dk_5 (dk_at dksX4_depart_1 16 rfl rfl)
theorem dX4_depart_39 : decode cX4_depart 39 = .ok (.putfield 80, 3) := dk_181 0 80 (dk_at dksX4_depart_1 17 rfl rfl)
theorem dX4_depart_42 : decode cX4_depart 42 = .ok (.aload_n 0, 1) := dk_42 (dk_at dksX4_depart_1 20 rfl rfl)
theorem dX4_depart_43 : decode cX4_depart 43 = .ok (.getfield 80, 3) := dk_180 0 80 (dk_at dksX4_depart_1 21 rfl rfl)
theorem dX4_depart_46 : decode cX4_depart 46 = .ok (.ifCond .le 5, 3) := dk_158 0 5 (dk_at dksX4_depart_2 0 rfl rfl)
theorem dX4_depart_49 : decode cX4_depart 49 = .ok (.iconst 0, 1) := dk_3 (dk_at dksX4_depart_2 3 rfl rfl)
theorem dX4_depart_50 : decode cX4_depart 50 = .ok (.ireturn, 1) := dk_172 (dk_at dksX4_depart_2 4 rfl rfl)
theorem dX4_depart_51 : decode cX4_depart 51 = .ok (.iconst 5, 1) := dk_8 (dk_at dksX4_depart_2 5 rfl rfl)
theorem dX4_depart_52 : decode cX4_depart 52 = .ok (.iload_n 1, 1) := dk_27 (dk_at dksX4_depart_2 6 rfl rfl)
theorem dX4_depart_53 : decode cX4_depart 53 = .ok (.imul, 1) := dk_104 (dk_at dksX4_depart_2 7 rfl rfl)
theorem dX4_depart_54 : decode cX4_depart 54 = .ok (.iload_n 2, 1) := dk_28 (dk_at dksX4_depart_2 8 rfl rfl)
theorem dX4_depart_55 : decode cX4_depart 55 = .ok (.iadd, 1) := dk_96 (dk_at dksX4_depart_2 9 rfl rfl)
theorem dX4_depart_56 : decode cX4_depart 56 = .ok (.istore 4, 2) := dk_54 4 (dk_at dksX4_depart_2 10 rfl rfl)
theorem dX4_depart_58 : decode cX4_depart 58 = .ok (.iconst 0, 1) := dk_3 (dk_at dksX4_depart_2 12 rfl rfl)
theorem dX4_depart_59 : decode cX4_depart 59 = .ok (.istore 5, 2) := dk_54 5 (dk_at dksX4_depart_2 13 rfl rfl)
theorem dX4_depart_61 : decode cX4_depart 61 = .ok (.iload 5, 2) := dk_21 5 (dk_at dksX4_depart_2 15 rfl rfl)
theorem dX4_depart_63 : decode cX4_depart 63 = .ok (.aload_n 0, 1) := dk_42 (dk_at dksX4_depart_2 17 rfl rfl)
theorem dX4_depart_64 : decode cX4_depart 64 = .ok (.getfield 19, 3) := dk_180 0 19 (dk_at dksX4_depart_2 18 rfl rfl)
theorem dX4_depart_67 : decode cX4_depart 67 = .ok (.iload 4, 2) := dk_21 4 (dk_at dksX4_depart_2 21 rfl rfl)
theorem dX4_depart_69 : decode cX4_depart 69 = .ok (.iaload, 1) := dk_46 (dk_at dksX4_depart_2 23 rfl rfl)
theorem dX4_depart_70 : decode cX4_depart 70 = .ok (.if_icmp .ge 81, 3) := dk_162 0 81 (dk_at dksX4_depart_3 0 rfl rfl)
theorem dX4_depart_73 : decode cX4_depart 73 = .ok (.aload_n 0, 1) := dk_42 (dk_at dksX4_depart_3 3 rfl rfl)
theorem dX4_depart_74 : decode cX4_depart 74 = .ok (.getfield 22, 3) := dk_180 0 22 (dk_at dksX4_depart_3 4 rfl rfl)
theorem dX4_depart_77 : decode cX4_depart 77 = .ok (.bipush 6, 2) := dk_16 6 (dk_at dksX4_depart_3 7 rfl rfl)
theorem dX4_depart_79 : decode cX4_depart 79 = .ok (.iload 4, 2) := dk_21 4 (dk_at dksX4_depart_3 9 rfl rfl)
theorem dX4_depart_81 : decode cX4_depart 81 = .ok (.imul, 1) := dk_104 (dk_at dksX4_depart_3 11 rfl rfl)
theorem dX4_depart_82 : decode cX4_depart 82 = .ok (.iload 5, 2) := dk_21 5 (dk_at dksX4_depart_3 12 rfl rfl)
theorem dX4_depart_84 : decode cX4_depart 84 = .ok (.iadd, 1) := dk_96 (dk_at dksX4_depart_3 14 rfl rfl)
theorem dX4_depart_85 : decode cX4_depart 85 = .ok (.iaload, 1) := dk_46 (dk_at dksX4_depart_3 15 rfl rfl)
theorem dX4_depart_86 : decode cX4_depart 86 = .ok (.istore 6, 2) := dk_54 6 (dk_at dksX4_depart_3 16 rfl rfl)
theorem dX4_depart_88 : decode cX4_depart 88 = .ok (.aload_n 0, 1) := dk_42 (dk_at dksX4_depart_3 18 rfl rfl)
theorem dX4_depart_89 : decode cX4_depart 89 = .ok (.getfield 77, 3) := dk_180 0 77 (dk_at dksX4_depart_3 19 rfl rfl)
theorem dX4_depart_92 : decode cX4_depart 92 = .ok (.bipush 6, 2) := dk_16 6 (dk_at dksX4_depart_3 22 rfl rfl)
theorem dX4_depart_94 : decode cX4_depart 94 = .ok (.aload_n 0, 1) := dk_42 (dk_at dksX4_depart_4 0 rfl rfl)
theorem dX4_depart_95 : decode cX4_depart 95 = .ok (.getfield 183, 3) := dk_180 0 183 (dk_at dksX4_depart_4 1 rfl rfl)
theorem dX4_depart_98 : decode cX4_depart 98 = .ok (.imul, 1) := dk_104 (dk_at dksX4_depart_4 4 rfl rfl)
theorem dX4_depart_99 : decode cX4_depart 99 = .ok (.iload 5, 2) := dk_21 5 (dk_at dksX4_depart_4 5 rfl rfl)
theorem dX4_depart_101 : decode cX4_depart 101 = .ok (.iadd, 1) := dk_96 (dk_at dksX4_depart_4 7 rfl rfl)
theorem dX4_depart_102 : decode cX4_depart 102 = .ok (.iload 6, 2) := dk_21 6 (dk_at dksX4_depart_4 8 rfl rfl)
theorem dX4_depart_104 : decode cX4_depart 104 = .ok (.iastore, 1) := dk_79 (dk_at dksX4_depart_4 10 rfl rfl)
theorem dX4_depart_105 : decode cX4_depart 105 = .ok (.aload_n 0, 1) := dk_42 (dk_at dksX4_depart_4 11 rfl rfl)
theorem dX4_depart_106 : decode cX4_depart 106 = .ok (.getfield 7, 3) := dk_180 0 7 (dk_at dksX4_depart_4 12 rfl rfl)
theorem dX4_depart_109 : decode cX4_depart 109 = .ok (.iload 6, 2) := dk_21 6 (dk_at dksX4_depart_4 15 rfl rfl)
theorem dX4_depart_111 : decode cX4_depart 111 = .ok (.iconst (-1), 1) := dk_2 (dk_at dksX4_depart_4 17 rfl rfl)
theorem dX4_depart_112 : decode cX4_depart 112 = .ok (.iastore, 1) := dk_79 (dk_at dksX4_depart_4 18 rfl rfl)
theorem dX4_depart_113 : decode cX4_depart 113 = .ok (.aload_n 0, 1) := dk_42 (dk_at dksX4_depart_4 19 rfl rfl)
theorem dX4_depart_114 : decode cX4_depart 114 = .ok (.getfield 13, 3) := dk_180 0 13 (dk_at dksX4_depart_4 20 rfl rfl)
theorem dX4_depart_117 : decode cX4_depart 117 = .ok (.iload 6, 2) := dk_21 6 (dk_at dksX4_depart_5 0 rfl rfl)
theorem dX4_depart_119 : decode cX4_depart 119 = .ok (.aload_n 0, 1) := dk_42 (dk_at dksX4_depart_5 2 rfl rfl)
theorem dX4_depart_120 : decode cX4_depart 120 = .ok (.getfield 50, 3) := dk_180 0 50 (dk_at dksX4_depart_5 3 rfl rfl)
theorem dX4_depart_123 : decode cX4_depart 123 = .ok (.aload_n 0, 1) := dk_42 (dk_at dksX4_depart_5 6 rfl rfl)
theorem dX4_depart_124 : decode cX4_depart 124 = .ok (.getfield 16, 3) := dk_180 0 16 (dk_at dksX4_depart_5 7 rfl rfl)
theorem dX4_depart_127 : decode cX4_depart 127 = .ok (.iload 6, 2) := dk_21 6 (dk_at dksX4_depart_5 10 rfl rfl)
theorem dX4_depart_129 : decode cX4_depart 129 = .ok (.iaload, 1) := dk_46 (dk_at dksX4_depart_5 12 rfl rfl)
theorem dX4_depart_130 : decode cX4_depart 130 = .ok (.iaload, 1) := dk_46 (dk_at dksX4_depart_5 13 rfl rfl)
theorem dX4_depart_131 : decode cX4_depart 131 = .ok (.iastore, 1) := dk_79 (dk_at dksX4_depart_5 14 rfl rfl)
theorem dX4_depart_132 : decode cX4_depart 132 = .ok (.aload_n 0, 1) := dk_42 (dk_at dksX4_depart_5 15 rfl rfl)
theorem dX4_depart_133 : decode cX4_depart 133 = .ok (.getfield 47, 3) := dk_180 0 47 (dk_at dksX4_depart_5 16 rfl rfl)
theorem dX4_depart_136 : decode cX4_depart 136 = .ok (.aload_n 0, 1) := dk_42 (dk_at dksX4_depart_5 19 rfl rfl)
theorem dX4_depart_137 : decode cX4_depart 137 = .ok (.getfield 16, 3) := dk_180 0 16 (dk_at dksX4_depart_5 20 rfl rfl)
theorem dX4_depart_140 : decode cX4_depart 140 = .ok (.iload 6, 2) := dk_21 6 (dk_at dksX4_depart_6 0 rfl rfl)
theorem dX4_depart_142 : decode cX4_depart 142 = .ok (.iaload, 1) := dk_46 (dk_at dksX4_depart_6 2 rfl rfl)
theorem dX4_depart_143 : decode cX4_depart 143 = .ok (.iconst 3, 1) := dk_6 (dk_at dksX4_depart_6 3 rfl rfl)
theorem dX4_depart_144 : decode cX4_depart 144 = .ok (.iastore, 1) := dk_79 (dk_at dksX4_depart_6 4 rfl rfl)
theorem dX4_depart_145 : decode cX4_depart 145 = .ok (.iinc 5 1, 3) := dk_132 5 1 (dk_at dksX4_depart_6 5 rfl rfl)
theorem dX4_depart_148 : decode cX4_depart 148 = .ok (.goto (-87), 3) := dk_167 255 169 (dk_at dksX4_depart_6 8 rfl rfl)
theorem dX4_depart_151 : decode cX4_depart 151 = .ok (.aload_n 0, 1) := dk_42 (dk_at dksX4_depart_6 11 rfl rfl)
theorem dX4_depart_152 : decode cX4_depart 152 = .ok (.getfield 74, 3) := dk_180 0 74 (dk_at dksX4_depart_6 12 rfl rfl)
theorem dX4_depart_155 : decode cX4_depart 155 = .ok (.aload_n 0, 1) := dk_42 (dk_at dksX4_depart_6 15 rfl rfl)
theorem dX4_depart_156 : decode cX4_depart 156 = .ok (.getfield 183, 3) := dk_180 0 183 (dk_at dksX4_depart_6 16 rfl rfl)
theorem dX4_depart_159 : decode cX4_depart 159 = .ok (.aload_n 0, 1) := dk_42 (dk_at dksX4_depart_6 19 rfl rfl)
theorem dX4_depart_160 : decode cX4_depart 160 = .ok (.getfield 19, 3) := dk_180 0 19 (dk_at dksX4_depart_6 20 rfl rfl)
theorem dX4_depart_163 : decode cX4_depart 163 = .ok (.iload 4, 2) := dk_21 4 (dk_at dksX4_depart_7 0 rfl rfl)
theorem dX4_depart_165 : decode cX4_depart 165 = .ok (.iaload, 1) := dk_46 (dk_at dksX4_depart_7 2 rfl rfl)
theorem dX4_depart_166 : decode cX4_depart 166 = .ok (.iastore, 1) := dk_79 (dk_at dksX4_depart_7 3 rfl rfl)
theorem dX4_depart_167 : decode cX4_depart 167 = .ok (.aload_n 0, 1) := dk_42 (dk_at dksX4_depart_7 4 rfl rfl)
theorem dX4_depart_168 : decode cX4_depart 168 = .ok (.getfield 19, 3) := dk_180 0 19 (dk_at dksX4_depart_7 5 rfl rfl)
theorem dX4_depart_171 : decode cX4_depart 171 = .ok (.iload 4, 2) := dk_21 4 (dk_at dksX4_depart_7 8 rfl rfl)
theorem dX4_depart_173 : decode cX4_depart 173 = .ok (.iconst 0, 1) := dk_3 (dk_at dksX4_depart_7 10 rfl rfl)
theorem dX4_depart_174 : decode cX4_depart 174 = .ok (.iastore, 1) := dk_79 (dk_at dksX4_depart_7 11 rfl rfl)
theorem dX4_depart_175 : decode cX4_depart 175 = .ok (.aload_n 0, 1) := dk_42 (dk_at dksX4_depart_7 12 rfl rfl)
theorem dX4_depart_176 : decode cX4_depart 176 = .ok (.getfield 68, 3) := dk_180 0 68 (dk_at dksX4_depart_7 13 rfl rfl)
theorem dX4_depart_179 : decode cX4_depart 179 = .ok (.aload_n 0, 1) := dk_42 (dk_at dksX4_depart_7 16 rfl rfl)
theorem dX4_depart_180 : decode cX4_depart 180 = .ok (.getfield 183, 3) := dk_180 0 183 (dk_at dksX4_depart_7 17 rfl rfl)
theorem dX4_depart_183 : decode cX4_depart 183 = .ok (.iload_n 3, 1) := dk_29 (dk_at dksX4_depart_7 20 rfl rfl)
theorem dX4_depart_184 : decode cX4_depart 184 = .ok (.iastore, 1) := dk_79 (dk_at dksX4_depart_7 21 rfl rfl)
theorem dX4_depart_185 : decode cX4_depart 185 = .ok (.aload_n 0, 1) := dk_42 (dk_at dksX4_depart_7 22 rfl rfl)
theorem dX4_depart_186 : decode cX4_depart 186 = .ok (.dup, 1) := dk_89 (dk_at dksX4_depart_7 23 rfl rfl)
theorem dX4_depart_187 : decode cX4_depart 187 = .ok (.getfield 183, 3) := dk_180 0 183 (dk_at dksX4_depart_8 0 rfl rfl)
theorem dX4_depart_190 : decode cX4_depart 190 = .ok (.iconst 1, 1) := dk_4 (dk_at dksX4_depart_8 3 rfl rfl)
theorem dX4_depart_191 : decode cX4_depart 191 = .ok (.iadd, 1) := dk_96 (dk_at dksX4_depart_8 4 rfl rfl)
theorem dX4_depart_192 : decode cX4_depart 192 = .ok (.putfield 183, 3) := dk_181 0 183 (dk_at dksX4_depart_8 5 rfl rfl)
theorem dX4_depart_195 : decode cX4_depart 195 = .ok (.aload_n 0, 1) := dk_42 (dk_at dksX4_depart_8 8 rfl rfl)
theorem dX4_depart_196 : decode cX4_depart 196 = .ok (.getfield 183, 3) := dk_180 0 183 (dk_at dksX4_depart_8 9 rfl rfl)
theorem dX4_depart_199 : decode cX4_depart 199 = .ok (.iconst 1, 1) := dk_4 (dk_at dksX4_depart_8 12 rfl rfl)
theorem dX4_depart_200 : decode cX4_depart 200 = .ok (.isub, 1) := dk_100 (dk_at dksX4_depart_8 13 rfl rfl)
theorem dX4_depart_201 : decode cX4_depart 201 = .ok (.ireturn, 1) := dk_172 (dk_at dksX4_depart_8 14 rfl rfl)
abbrev cX4_canDepart : ByteArray := prog_19_method_56_code
def yX4_canDepart : MethodName := ⟨RX4, "canDepart", "(II)Z"⟩
def dkwX4_canDepart_4 : List UInt8 := [167, 0, 4, 3, 54, 4, 132, 5, 1, 167, 255, 179, 21, 4, 172]
abbrev dktX4_canDepart_4 : List UInt8 := dkwX4_canDepart_4 ++ []
def dkwX4_canDepart_3 : List UInt8 := [21, 6, 46, 5, 160, 0, 22, 42, 21, 6, 16, 10, 27, 104, 28, 96, 182, 0, 177, 153, 0, 7, 4]
abbrev dktX4_canDepart_3 : List UInt8 := dkwX4_canDepart_3 ++ dktX4_canDepart_4
def dkwX4_canDepart_2 : List UInt8 := [180, 0, 22, 16, 6, 29, 104, 21, 5, 96, 46, 46, 54, 6, 21, 6, 2, 159, 0, 33, 42, 180, 0, 47]
abbrev dktX4_canDepart_2 : List UInt8 := dkwX4_canDepart_2 ++ dktX4_canDepart_3
def dkwX4_canDepart_1 : List UInt8 := [54, 5, 21, 5, 42, 180, 0, 19, 29, 46, 162, 0, 72, 21, 4, 153, 0, 67, 42, 180, 0, 16, 42]
abbrev dktX4_canDepart_1 : List UInt8 := dkwX4_canDepart_1 ++ dktX4_canDepart_2
def dkwX4_canDepart_0 : List UInt8 := [8, 27, 104, 28, 96, 62, 42, 180, 0, 19, 29, 46, 158, 0, 7, 4, 167, 0, 4, 3, 54, 4, 3]
abbrev dktX4_canDepart_0 : List UInt8 := dkwX4_canDepart_0 ++ dktX4_canDepart_1
theorem dksX4_canDepart_0 : cX4_canDepart.data.toList.drop 0 = dktX4_canDepart_0 := by decide +kernel
theorem dksX4_canDepart_1 : cX4_canDepart.data.toList.drop 23 = dktX4_canDepart_1 := dk_seg dksX4_canDepart_0 23 rfl rfl
theorem dksX4_canDepart_2 : cX4_canDepart.data.toList.drop 46 = dktX4_canDepart_2 := dk_seg dksX4_canDepart_1 23 rfl rfl
theorem dksX4_canDepart_3 : cX4_canDepart.data.toList.drop 70 = dktX4_canDepart_3 := dk_seg dksX4_canDepart_2 24 rfl rfl
theorem dksX4_canDepart_4 : cX4_canDepart.data.toList.drop 93 = dktX4_canDepart_4 := dk_seg dksX4_canDepart_3 23 rfl rfl
theorem dX4_canDepart_0 : decode cX4_canDepart 0 = .ok (.iconst 5, 1) := dk_8 (dk_at dksX4_canDepart_0 0 rfl rfl)
theorem dX4_canDepart_1 : decode cX4_canDepart 1 = .ok (.iload_n 1, 1) := dk_27 (dk_at dksX4_canDepart_0 1 rfl rfl)
theorem dX4_canDepart_2 : decode cX4_canDepart 2 = .ok (.imul, 1) := dk_104 (dk_at dksX4_canDepart_0 2 rfl rfl)
theorem dX4_canDepart_3 : decode cX4_canDepart 3 = .ok (.iload_n 2, 1) := dk_28 (dk_at dksX4_canDepart_0 3 rfl rfl)
theorem dX4_canDepart_4 : decode cX4_canDepart 4 = .ok (.iadd, 1) := dk_96 (dk_at dksX4_canDepart_0 4 rfl rfl)
theorem dX4_canDepart_5 : decode cX4_canDepart 5 = .ok (.istore_n 3, 1) := dk_62 (dk_at dksX4_canDepart_0 5 rfl rfl)
theorem dX4_canDepart_6 : decode cX4_canDepart 6 = .ok (.aload_n 0, 1) := dk_42 (dk_at dksX4_canDepart_0 6 rfl rfl)
theorem dX4_canDepart_7 : decode cX4_canDepart 7 = .ok (.getfield 19, 3) := dk_180 0 19 (dk_at dksX4_canDepart_0 7 rfl rfl)
theorem dX4_canDepart_10 : decode cX4_canDepart 10 = .ok (.iload_n 3, 1) := dk_29 (dk_at dksX4_canDepart_0 10 rfl rfl)
theorem dX4_canDepart_11 : decode cX4_canDepart 11 = .ok (.iaload, 1) := dk_46 (dk_at dksX4_canDepart_0 11 rfl rfl)
theorem dX4_canDepart_12 : decode cX4_canDepart 12 = .ok (.ifCond .le 7, 3) := dk_158 0 7 (dk_at dksX4_canDepart_0 12 rfl rfl)
theorem dX4_canDepart_15 : decode cX4_canDepart 15 = .ok (.iconst 1, 1) := dk_4 (dk_at dksX4_canDepart_0 15 rfl rfl)
theorem dX4_canDepart_16 : decode cX4_canDepart 16 = .ok (.goto 4, 3) := dk_167 0 4 (dk_at dksX4_canDepart_0 16 rfl rfl)
theorem dX4_canDepart_19 : decode cX4_canDepart 19 = .ok (.iconst 0, 1) := dk_3 (dk_at dksX4_canDepart_0 19 rfl rfl)
theorem dX4_canDepart_20 : decode cX4_canDepart 20 = .ok (.istore 4, 2) := dk_54 4 (dk_at dksX4_canDepart_0 20 rfl rfl)
theorem dX4_canDepart_22 : decode cX4_canDepart 22 = .ok (.iconst 0, 1) := dk_3 (dk_at dksX4_canDepart_0 22 rfl rfl)
theorem dX4_canDepart_23 : decode cX4_canDepart 23 = .ok (.istore 5, 2) := dk_54 5 (dk_at dksX4_canDepart_1 0 rfl rfl)
theorem dX4_canDepart_25 : decode cX4_canDepart 25 = .ok (.iload 5, 2) := dk_21 5 (dk_at dksX4_canDepart_1 2 rfl rfl)
theorem dX4_canDepart_27 : decode cX4_canDepart 27 = .ok (.aload_n 0, 1) := dk_42 (dk_at dksX4_canDepart_1 4 rfl rfl)
theorem dX4_canDepart_28 : decode cX4_canDepart 28 = .ok (.getfield 19, 3) := dk_180 0 19 (dk_at dksX4_canDepart_1 5 rfl rfl)
theorem dX4_canDepart_31 : decode cX4_canDepart 31 = .ok (.iload_n 3, 1) := dk_29 (dk_at dksX4_canDepart_1 8 rfl rfl)
theorem dX4_canDepart_32 : decode cX4_canDepart 32 = .ok (.iaload, 1) := dk_46 (dk_at dksX4_canDepart_1 9 rfl rfl)
theorem dX4_canDepart_33 : decode cX4_canDepart 33 = .ok (.if_icmp .ge 72, 3) := dk_162 0 72 (dk_at dksX4_canDepart_1 10 rfl rfl)
theorem dX4_canDepart_36 : decode cX4_canDepart 36 = .ok (.iload 4, 2) := dk_21 4 (dk_at dksX4_canDepart_1 13 rfl rfl)
theorem dX4_canDepart_38 : decode cX4_canDepart 38 = .ok (.ifCond .eq 67, 3) := dk_153 0 67 (dk_at dksX4_canDepart_1 15 rfl rfl)
theorem dX4_canDepart_41 : decode cX4_canDepart 41 = .ok (.aload_n 0, 1) := dk_42 (dk_at dksX4_canDepart_1 18 rfl rfl)
theorem dX4_canDepart_42 : decode cX4_canDepart 42 = .ok (.getfield 16, 3) := dk_180 0 16 (dk_at dksX4_canDepart_1 19 rfl rfl)
theorem dX4_canDepart_45 : decode cX4_canDepart 45 = .ok (.aload_n 0, 1) := dk_42 (dk_at dksX4_canDepart_1 22 rfl rfl)
theorem dX4_canDepart_46 : decode cX4_canDepart 46 = .ok (.getfield 22, 3) := dk_180 0 22 (dk_at dksX4_canDepart_2 0 rfl rfl)
theorem dX4_canDepart_49 : decode cX4_canDepart 49 = .ok (.bipush 6, 2) := dk_16 6 (dk_at dksX4_canDepart_2 3 rfl rfl)
theorem dX4_canDepart_51 : decode cX4_canDepart 51 = .ok (.iload_n 3, 1) := dk_29 (dk_at dksX4_canDepart_2 5 rfl rfl)
theorem dX4_canDepart_52 : decode cX4_canDepart 52 = .ok (.imul, 1) := dk_104 (dk_at dksX4_canDepart_2 6 rfl rfl)
theorem dX4_canDepart_53 : decode cX4_canDepart 53 = .ok (.iload 5, 2) := dk_21 5 (dk_at dksX4_canDepart_2 7 rfl rfl)
theorem dX4_canDepart_55 : decode cX4_canDepart 55 = .ok (.iadd, 1) := dk_96 (dk_at dksX4_canDepart_2 9 rfl rfl)
theorem dX4_canDepart_56 : decode cX4_canDepart 56 = .ok (.iaload, 1) := dk_46 (dk_at dksX4_canDepart_2 10 rfl rfl)
theorem dX4_canDepart_57 : decode cX4_canDepart 57 = .ok (.iaload, 1) := dk_46 (dk_at dksX4_canDepart_2 11 rfl rfl)
theorem dX4_canDepart_58 : decode cX4_canDepart 58 = .ok (.istore 6, 2) := dk_54 6 (dk_at dksX4_canDepart_2 12 rfl rfl)
theorem dX4_canDepart_60 : decode cX4_canDepart 60 = .ok (.iload 6, 2) := dk_21 6 (dk_at dksX4_canDepart_2 14 rfl rfl)
theorem dX4_canDepart_62 : decode cX4_canDepart 62 = .ok (.iconst (-1), 1) := dk_2 (dk_at dksX4_canDepart_2 16 rfl rfl)
theorem dX4_canDepart_63 : decode cX4_canDepart 63 = .ok (.if_icmp .eq 33, 3) := dk_159 0 33 (dk_at dksX4_canDepart_2 17 rfl rfl)
theorem dX4_canDepart_66 : decode cX4_canDepart 66 = .ok (.aload_n 0, 1) := dk_42 (dk_at dksX4_canDepart_2 20 rfl rfl)
theorem dX4_canDepart_67 : decode cX4_canDepart 67 = .ok (.getfield 47, 3) := dk_180 0 47 (dk_at dksX4_canDepart_2 21 rfl rfl)
theorem dX4_canDepart_70 : decode cX4_canDepart 70 = .ok (.iload 6, 2) := dk_21 6 (dk_at dksX4_canDepart_3 0 rfl rfl)
theorem dX4_canDepart_72 : decode cX4_canDepart 72 = .ok (.iaload, 1) := dk_46 (dk_at dksX4_canDepart_3 2 rfl rfl)
theorem dX4_canDepart_73 : decode cX4_canDepart 73 = .ok (.iconst 2, 1) := dk_5 (dk_at dksX4_canDepart_3 3 rfl rfl)
theorem dX4_canDepart_74 : decode cX4_canDepart 74 = .ok (.if_icmp .ne 22, 3) := dk_160 0 22 (dk_at dksX4_canDepart_3 4 rfl rfl)
theorem dX4_canDepart_77 : decode cX4_canDepart 77 = .ok (.aload_n 0, 1) := dk_42 (dk_at dksX4_canDepart_3 7 rfl rfl)
theorem dX4_canDepart_78 : decode cX4_canDepart 78 = .ok (.iload 6, 2) := dk_21 6 (dk_at dksX4_canDepart_3 8 rfl rfl)
theorem dX4_canDepart_80 : decode cX4_canDepart 80 = .ok (.bipush 10, 2) := dk_16 10 (dk_at dksX4_canDepart_3 10 rfl rfl)
theorem dX4_canDepart_82 : decode cX4_canDepart 82 = .ok (.iload_n 1, 1) := dk_27 (dk_at dksX4_canDepart_3 12 rfl rfl)
theorem dX4_canDepart_83 : decode cX4_canDepart 83 = .ok (.imul, 1) := dk_104 (dk_at dksX4_canDepart_3 13 rfl rfl)
theorem dX4_canDepart_84 : decode cX4_canDepart 84 = .ok (.iload_n 2, 1) := dk_28 (dk_at dksX4_canDepart_3 14 rfl rfl)
theorem dX4_canDepart_85 : decode cX4_canDepart 85 = .ok (.iadd, 1) := dk_96 (dk_at dksX4_canDepart_3 15 rfl rfl)
theorem dX4_canDepart_86 : decode cX4_canDepart 86 = .ok (.invokevirtual 177, 3) := dk_182 0 177 (dk_at dksX4_canDepart_3 16 rfl rfl)
theorem dX4_canDepart_89 : decode cX4_canDepart 89 = .ok (.ifCond .eq 7, 3) := dk_153 0 7 (dk_at dksX4_canDepart_3 19 rfl rfl)
theorem dX4_canDepart_92 : decode cX4_canDepart 92 = .ok (.iconst 1, 1) := dk_4 (dk_at dksX4_canDepart_3 22 rfl rfl)
theorem dX4_canDepart_93 : decode cX4_canDepart 93 = .ok (.goto 4, 3) := dk_167 0 4 (dk_at dksX4_canDepart_4 0 rfl rfl)
theorem dX4_canDepart_96 : decode cX4_canDepart 96 = .ok (.iconst 0, 1) := dk_3 (dk_at dksX4_canDepart_4 3 rfl rfl)
theorem dX4_canDepart_97 : decode cX4_canDepart 97 = .ok (.istore 4, 2) := dk_54 4 (dk_at dksX4_canDepart_4 4 rfl rfl)
theorem dX4_canDepart_99 : decode cX4_canDepart 99 = .ok (.iinc 5 1, 3) := dk_132 5 1 (dk_at dksX4_canDepart_4 6 rfl rfl)
theorem dX4_canDepart_102 : decode cX4_canDepart 102 = .ok (.goto (-77), 3) := dk_167 255 179 (dk_at dksX4_canDepart_4 9 rfl rfl)
theorem dX4_canDepart_105 : decode cX4_canDepart 105 = .ok (.iload 4, 2) := dk_21 4 (dk_at dksX4_canDepart_4 12 rfl rfl)
theorem dX4_canDepart_107 : decode cX4_canDepart 107 = .ok (.ireturn, 1) := dk_172 (dk_at dksX4_canDepart_4 14 rfl rfl)
abbrev cX4_areOn : ByteArray := prog_19_method_55_code
def yX4_areOn : MethodName := ⟨RX4, "areOn", "(II)Z"⟩
def dkwX4_areOn_2 : List UInt8 := [132, 4, 1, 167, 255, 211, 29, 172]
abbrev dktX4_areOn_2 : List UInt8 := dkwX4_areOn_2 ++ []
def dkwX4_areOn_1 : List UInt8 := [42, 180, 0, 65, 16, 30, 27, 104, 21, 4, 96, 46, 46, 28, 160, 0, 7, 4, 167, 0, 4, 3, 62]
abbrev dktX4_areOn_1 : List UInt8 := dkwX4_areOn_1 ++ dktX4_areOn_2
def dkwX4_areOn_0 : List UInt8 := [4, 62, 3, 54, 4, 21, 4, 42, 180, 0, 62, 27, 46, 162, 0, 40, 29, 153, 0, 28, 42, 180, 0, 7]
abbrev dktX4_areOn_0 : List UInt8 := dkwX4_areOn_0 ++ dktX4_areOn_1
theorem dksX4_areOn_0 : cX4_areOn.data.toList.drop 0 = dktX4_areOn_0 := by decide +kernel
theorem dksX4_areOn_1 : cX4_areOn.data.toList.drop 24 = dktX4_areOn_1 := dk_seg dksX4_areOn_0 24 rfl rfl
theorem dksX4_areOn_2 : cX4_areOn.data.toList.drop 47 = dktX4_areOn_2 := dk_seg dksX4_areOn_1 23 rfl rfl
theorem dX4_areOn_0 : decode cX4_areOn 0 = .ok (.iconst 1, 1) := dk_4 (dk_at dksX4_areOn_0 0 rfl rfl)
theorem dX4_areOn_1 : decode cX4_areOn 1 = .ok (.istore_n 3, 1) := dk_62 (dk_at dksX4_areOn_0 1 rfl rfl)
theorem dX4_areOn_2 : decode cX4_areOn 2 = .ok (.iconst 0, 1) := dk_3 (dk_at dksX4_areOn_0 2 rfl rfl)
theorem dX4_areOn_3 : decode cX4_areOn 3 = .ok (.istore 4, 2) := dk_54 4 (dk_at dksX4_areOn_0 3 rfl rfl)
theorem dX4_areOn_5 : decode cX4_areOn 5 = .ok (.iload 4, 2) := dk_21 4 (dk_at dksX4_areOn_0 5 rfl rfl)
theorem dX4_areOn_7 : decode cX4_areOn 7 = .ok (.aload_n 0, 1) := dk_42 (dk_at dksX4_areOn_0 7 rfl rfl)
theorem dX4_areOn_8 : decode cX4_areOn 8 = .ok (.getfield 62, 3) := dk_180 0 62 (dk_at dksX4_areOn_0 8 rfl rfl)
theorem dX4_areOn_11 : decode cX4_areOn 11 = .ok (.iload_n 1, 1) := dk_27 (dk_at dksX4_areOn_0 11 rfl rfl)
theorem dX4_areOn_12 : decode cX4_areOn 12 = .ok (.iaload, 1) := dk_46 (dk_at dksX4_areOn_0 12 rfl rfl)
theorem dX4_areOn_13 : decode cX4_areOn 13 = .ok (.if_icmp .ge 40, 3) := dk_162 0 40 (dk_at dksX4_areOn_0 13 rfl rfl)
theorem dX4_areOn_16 : decode cX4_areOn 16 = .ok (.iload_n 3, 1) := dk_29 (dk_at dksX4_areOn_0 16 rfl rfl)
theorem dX4_areOn_17 : decode cX4_areOn 17 = .ok (.ifCond .eq 28, 3) := dk_153 0 28 (dk_at dksX4_areOn_0 17 rfl rfl)
theorem dX4_areOn_20 : decode cX4_areOn 20 = .ok (.aload_n 0, 1) := dk_42 (dk_at dksX4_areOn_0 20 rfl rfl)
theorem dX4_areOn_21 : decode cX4_areOn 21 = .ok (.getfield 7, 3) := dk_180 0 7 (dk_at dksX4_areOn_0 21 rfl rfl)
theorem dX4_areOn_24 : decode cX4_areOn 24 = .ok (.aload_n 0, 1) := dk_42 (dk_at dksX4_areOn_1 0 rfl rfl)
theorem dX4_areOn_25 : decode cX4_areOn 25 = .ok (.getfield 65, 3) := dk_180 0 65 (dk_at dksX4_areOn_1 1 rfl rfl)
theorem dX4_areOn_28 : decode cX4_areOn 28 = .ok (.bipush 30, 2) := dk_16 30 (dk_at dksX4_areOn_1 4 rfl rfl)
theorem dX4_areOn_30 : decode cX4_areOn 30 = .ok (.iload_n 1, 1) := dk_27 (dk_at dksX4_areOn_1 6 rfl rfl)
theorem dX4_areOn_31 : decode cX4_areOn 31 = .ok (.imul, 1) := dk_104 (dk_at dksX4_areOn_1 7 rfl rfl)
theorem dX4_areOn_32 : decode cX4_areOn 32 = .ok (.iload 4, 2) := dk_21 4 (dk_at dksX4_areOn_1 8 rfl rfl)
theorem dX4_areOn_34 : decode cX4_areOn 34 = .ok (.iadd, 1) := dk_96 (dk_at dksX4_areOn_1 10 rfl rfl)
theorem dX4_areOn_35 : decode cX4_areOn 35 = .ok (.iaload, 1) := dk_46 (dk_at dksX4_areOn_1 11 rfl rfl)
theorem dX4_areOn_36 : decode cX4_areOn 36 = .ok (.iaload, 1) := dk_46 (dk_at dksX4_areOn_1 12 rfl rfl)
theorem dX4_areOn_37 : decode cX4_areOn 37 = .ok (.iload_n 2, 1) := dk_28 (dk_at dksX4_areOn_1 13 rfl rfl)
theorem dX4_areOn_38 : decode cX4_areOn 38 = .ok (.if_icmp .ne 7, 3) := dk_160 0 7 (dk_at dksX4_areOn_1 14 rfl rfl)
theorem dX4_areOn_41 : decode cX4_areOn 41 = .ok (.iconst 1, 1) := dk_4 (dk_at dksX4_areOn_1 17 rfl rfl)
theorem dX4_areOn_42 : decode cX4_areOn 42 = .ok (.goto 4, 3) := dk_167 0 4 (dk_at dksX4_areOn_1 18 rfl rfl)
theorem dX4_areOn_45 : decode cX4_areOn 45 = .ok (.iconst 0, 1) := dk_3 (dk_at dksX4_areOn_1 21 rfl rfl)
theorem dX4_areOn_46 : decode cX4_areOn 46 = .ok (.istore_n 3, 1) := dk_62 (dk_at dksX4_areOn_1 22 rfl rfl)
theorem dX4_areOn_47 : decode cX4_areOn 47 = .ok (.iinc 4 1, 3) := dk_132 4 1 (dk_at dksX4_areOn_2 0 rfl rfl)
theorem dX4_areOn_50 : decode cX4_areOn 50 = .ok (.goto (-45), 3) := dk_167 255 211 (dk_at dksX4_areOn_2 3 rfl rfl)
theorem dX4_areOn_53 : decode cX4_areOn 53 = .ok (.iload_n 3, 1) := dk_29 (dk_at dksX4_areOn_2 6 rfl rfl)
theorem dX4_areOn_54 : decode cX4_areOn 54 = .ok (.ireturn, 1) := dk_172 (dk_at dksX4_areOn_2 7 rfl rfl)
abbrev cX4_arrive : ByteArray := prog_19_method_58_code
def yX4_arrive : MethodName := ⟨RX4, "arrive", "(II)I"⟩
def dkwX4_arrive_7 : List UInt8 := [180, 0, 19, 8, 42, 180, 0, 68, 27, 46, 104, 28, 96, 46, 172]
abbrev dktX4_arrive_7 : List UInt8 := dkwX4_arrive_7 ++ []
def dkwX4_arrive_6 : List UInt8 := [182, 0, 99, 42, 180, 0, 47, 42, 180, 0, 16, 21, 4, 46, 7, 79, 132, 3, 1, 167, 255, 204, 42]
abbrev dktX4_arrive_6 : List UInt8 := dkwX4_arrive_6 ++ dktX4_arrive_7
def dkwX4_arrive_5 : List UInt8 := [42, 180, 0, 77, 16, 6, 27, 104, 29, 96, 46, 54, 4, 42, 42, 180, 0, 68, 27, 46, 28, 21, 4]
abbrev dktX4_arrive_5 : List UInt8 := dkwX4_arrive_5 ++ dktX4_arrive_6
def dkwX4_arrive_4 : List UInt8 := [158, 0, 5, 3, 172, 42, 180, 0, 71, 27, 4, 84, 3, 62, 29, 42, 180, 0, 74, 27, 46, 162, 0, 48]
abbrev dktX4_arrive_4 : List UInt8 := dkwX4_arrive_4 ++ dktX4_arrive_5
def dkwX4_arrive_3 : List UInt8 := [180, 0, 74, 27, 46, 96, 16, 6, 164, 0, 7, 6, 167, 0, 4, 3, 181, 0, 80, 42, 180, 0, 80]
abbrev dktX4_arrive_3 : List UInt8 := dkwX4_arrive_3 ++ dktX4_arrive_4
def dkwX4_arrive_2 : List UInt8 := [180, 0, 71, 27, 51, 154, 0, 30, 42, 180, 0, 19, 8, 42, 180, 0, 68, 27, 46, 104, 28, 96, 46, 42]
abbrev dktX4_arrive_2 : List UInt8 := dkwX4_arrive_2 ++ dktX4_arrive_3
def dkwX4_arrive_1 : List UInt8 := [184, 0, 84, 154, 0, 7, 5, 167, 0, 4, 3, 181, 0, 80, 42, 180, 0, 80, 154, 0, 48, 42, 42]
abbrev dktX4_arrive_1 : List UInt8 := dkwX4_arrive_1 ++ dktX4_arrive_2
def dkwX4_arrive_0 : List UInt8 := [42, 27, 3, 42, 180, 0, 183, 4, 100, 184, 0, 84, 154, 0, 7, 4, 167, 0, 17, 28, 3, 7]
abbrev dktX4_arrive_0 : List UInt8 := dkwX4_arrive_0 ++ dktX4_arrive_1
theorem dksX4_arrive_0 : cX4_arrive.data.toList.drop 0 = dktX4_arrive_0 := by decide +kernel
theorem dksX4_arrive_1 : cX4_arrive.data.toList.drop 22 = dktX4_arrive_1 := dk_seg dksX4_arrive_0 22 rfl rfl
theorem dksX4_arrive_2 : cX4_arrive.data.toList.drop 45 = dktX4_arrive_2 := dk_seg dksX4_arrive_1 23 rfl rfl
theorem dksX4_arrive_3 : cX4_arrive.data.toList.drop 69 = dktX4_arrive_3 := dk_seg dksX4_arrive_2 24 rfl rfl
theorem dksX4_arrive_4 : cX4_arrive.data.toList.drop 92 = dktX4_arrive_4 := dk_seg dksX4_arrive_3 23 rfl rfl
theorem dksX4_arrive_5 : cX4_arrive.data.toList.drop 116 = dktX4_arrive_5 := dk_seg dksX4_arrive_4 24 rfl rfl
theorem dksX4_arrive_6 : cX4_arrive.data.toList.drop 139 = dktX4_arrive_6 := dk_seg dksX4_arrive_5 23 rfl rfl
theorem dksX4_arrive_7 : cX4_arrive.data.toList.drop 162 = dktX4_arrive_7 := dk_seg dksX4_arrive_6 23 rfl rfl
theorem dX4_arrive_0 : decode cX4_arrive 0 = .ok (.aload_n 0, 1) := dk_42 (dk_at dksX4_arrive_0 0 rfl rfl)
theorem dX4_arrive_1 : decode cX4_arrive 1 = .ok (.iload_n 1, 1) := dk_27 (dk_at dksX4_arrive_0 1 rfl rfl)
theorem dX4_arrive_2 : decode cX4_arrive 2 = .ok (.iconst 0, 1) := dk_3 (dk_at dksX4_arrive_0 2 rfl rfl)
theorem dX4_arrive_3 : decode cX4_arrive 3 = .ok (.aload_n 0, 1) := dk_42 (dk_at dksX4_arrive_0 3 rfl rfl)
theorem dX4_arrive_4 : decode cX4_arrive 4 = .ok (.getfield 183, 3) := dk_180 0 183 (dk_at dksX4_arrive_0 4 rfl rfl)
theorem dX4_arrive_7 : decode cX4_arrive 7 = .ok (.iconst 1, 1) := dk_4 (dk_at dksX4_arrive_0 7 rfl rfl)
theorem dX4_arrive_8 : decode cX4_arrive 8 = .ok (.isub, 1) := dk_100 (dk_at dksX4_arrive_0 8 rfl rfl)
theorem dX4_arrive_9 : decode cX4_arrive 9 = .ok (.invokestatic 84, 3) := dk_184 0 84 (dk_at dksX4_arrive_0 9 rfl rfl)
theorem dX4_arrive_12 : decode cX4_arrive 12 = .ok (.ifCond .ne 7, 3) := dk_154 0 7 (dk_at dksX4_arrive_0 12 rfl rfl)
theorem dX4_arrive_15 : decode cX4_arrive 15 = .ok (.iconst 1, 1) := dk_4 (dk_at dksX4_arrive_0 15 rfl rfl)
theorem dX4_arrive_16 : decode cX4_arrive 16 = .ok (.goto 17, 3) := dk_167 0 17 (dk_at dksX4_arrive_0 16 rfl rfl)
theorem dX4_arrive_19 : decode cX4_arrive 19 = .ok (.iload_n 2, 1) := dk_28 (dk_at dksX4_arrive_0 19 rfl rfl)
theorem dX4_arrive_20 : decode cX4_arrive 20 = .ok (.iconst 0, 1) := dk_3 (dk_at dksX4_arrive_0 20 rfl rfl)
theorem dX4_arrive_21 : decode cX4_arrive 21 = .ok (.iconst 4, 1) := dk_7 (dk_at dksX4_arrive_0 21 rfl rfl)
theorem dX4_arrive_22 : decode cX4_arrive 22 = .ok (.invokestatic 84, 3) := dk_184 0 84 (dk_at dksX4_arrive_1 0 rfl rfl)
theorem dX4_arrive_25 : decode cX4_arrive 25 = .ok (.ifCond .ne 7, 3) := dk_154 0 7 (dk_at dksX4_arrive_1 3 rfl rfl)
theorem dX4_arrive_28 : decode cX4_arrive 28 = .ok (.iconst 2, 1) := dk_5 (dk_at dksX4_arrive_1 6 rfl rfl)
theorem dX4_arrive_29 : decode cX4_arrive 29 = .ok (.goto 4, 3) := dk_167 0 4 (dk_at dksX4_arrive_1 7 rfl rfl)
theorem dX4_arrive_32 : decode cX4_arrive 32 = .ok (.iconst 0, 1) := dk_3 (dk_at dksX4_arrive_1 10 rfl rfl)
theorem dX4_arrive_33 : decode cX4_arrive 33 = .ok (.putfield 80, 3) := dk_181 0 80 (dk_at dksX4_arrive_1 11 rfl rfl)
theorem dX4_arrive_36 : decode cX4_arrive 36 = .ok (.aload_n 0, 1) := dk_42 (dk_at dksX4_arrive_1 14 rfl rfl)
theorem dX4_arrive_37 : decode cX4_arrive 37 = .ok (.getfield 80, 3) := dk_180 0 80 (dk_at dksX4_arrive_1 15 rfl rfl)
theorem dX4_arrive_40 : decode cX4_arrive 40 = .ok (.ifCond .ne 48, 3) := dk_154 0 48 (dk_at dksX4_arrive_1 18 rfl rfl)
theorem dX4_arrive_43 : decode cX4_arrive 43 = .ok (.aload_n 0, 1) := dk_42 (dk_at dksX4_arrive_1 21 rfl rfl)
theorem dX4_arrive_44 : decode cX4_arrive 44 = .ok (.aload_n 0, 1) := dk_42 (dk_at dksX4_arrive_1 22 rfl rfl)
theorem dX4_arrive_45 : decode cX4_arrive 45 = .ok (.getfield 71, 3) := dk_180 0 71 (dk_at dksX4_arrive_2 0 rfl rfl)
theorem dX4_arrive_48 : decode cX4_arrive 48 = .ok (.iload_n 1, 1) := dk_27 (dk_at dksX4_arrive_2 3 rfl rfl)
theorem dX4_arrive_49 : decode cX4_arrive 49 = .ok (.baload, 1) := dk_51 (dk_at dksX4_arrive_2 4 rfl rfl)
theorem dX4_arrive_50 : decode cX4_arrive 50 = .ok (.ifCond .ne 30, 3) := dk_154 0 30 (dk_at dksX4_arrive_2 5 rfl rfl)
theorem dX4_arrive_53 : decode cX4_arrive 53 = .ok (.aload_n 0, 1) := dk_42 (dk_at dksX4_arrive_2 8 rfl rfl)
theorem dX4_arrive_54 : decode cX4_arrive 54 = .ok (.getfield 19, 3) := dk_180 0 19 (dk_at dksX4_arrive_2 9 rfl rfl)
theorem dX4_arrive_57 : decode cX4_arrive 57 = .ok (.iconst 5, 1) := dk_8 (dk_at dksX4_arrive_2 12 rfl rfl)
theorem dX4_arrive_58 : decode cX4_arrive 58 = .ok (.aload_n 0, 1) := dk_42 (dk_at dksX4_arrive_2 13 rfl rfl)
theorem dX4_arrive_59 : decode cX4_arrive 59 = .ok (.getfield 68, 3) := dk_180 0 68 (dk_at dksX4_arrive_2 14 rfl rfl)
theorem dX4_arrive_62 : decode cX4_arrive 62 = .ok (.iload_n 1, 1) := dk_27 (dk_at dksX4_arrive_2 17 rfl rfl)
theorem dX4_arrive_63 : decode cX4_arrive 63 = .ok (.iaload, 1) := dk_46 (dk_at dksX4_arrive_2 18 rfl rfl)
theorem dX4_arrive_64 : decode cX4_arrive 64 = .ok (.imul, 1) := dk_104 (dk_at dksX4_arrive_2 19 rfl rfl)
theorem dX4_arrive_65 : decode cX4_arrive 65 = .ok (.iload_n 2, 1) := dk_28 (dk_at dksX4_arrive_2 20 rfl rfl)
theorem dX4_arrive_66 : decode cX4_arrive 66 = .ok (.iadd, 1) := dk_96 (dk_at dksX4_arrive_2 21 rfl rfl)
theorem dX4_arrive_67 : decode cX4_arrive 67 = .ok (.iaload, 1) := dk_46 (dk_at dksX4_arrive_2 22 rfl rfl)
theorem dX4_arrive_68 : decode cX4_arrive 68 = .ok (.aload_n 0, 1) := dk_42 (dk_at dksX4_arrive_2 23 rfl rfl)
theorem dX4_arrive_69 : decode cX4_arrive 69 = .ok (.getfield 74, 3) := dk_180 0 74 (dk_at dksX4_arrive_3 0 rfl rfl)
theorem dX4_arrive_72 : decode cX4_arrive 72 = .ok (.iload_n 1, 1) := dk_27 (dk_at dksX4_arrive_3 3 rfl rfl)
theorem dX4_arrive_73 : decode cX4_arrive 73 = .ok (.iaload, 1) := dk_46 (dk_at dksX4_arrive_3 4 rfl rfl)
theorem dX4_arrive_74 : decode cX4_arrive 74 = .ok (.iadd, 1) := dk_96 (dk_at dksX4_arrive_3 5 rfl rfl)
theorem dX4_arrive_75 : decode cX4_arrive 75 = .ok (.bipush 6, 2) := dk_16 6 (dk_at dksX4_arrive_3 6 rfl rfl)
theorem dX4_arrive_77 : decode cX4_arrive 77 = .ok (.if_icmp .le 7, 3) := dk_164 0 7 (dk_at dksX4_arrive_3 8 rfl rfl)
theorem dX4_arrive_80 : decode cX4_arrive 80 = .ok (.iconst 3, 1) := dk_6 (dk_at dksX4_arrive_3 11 rfl rfl)
theorem dX4_arrive_81 : decode cX4_arrive 81 = .ok (.goto 4, 3) := dk_167 0 4 (dk_at dksX4_arrive_3 12 rfl rfl)
theorem dX4_arrive_84 : decode cX4_arrive 84 = .ok (.iconst 0, 1) := dk_3 (dk_at dksX4_arrive_3 15 rfl rfl)
theorem dX4_arrive_85 : decode cX4_arrive 85 = .ok (.putfield 80, 3) := dk_181 0 80 (dk_at dksX4_arrive_3 16 rfl rfl)
theorem dX4_arrive_88 : decode cX4_arrive 88 = .ok (.aload_n 0, 1) := dk_42 (dk_at dksX4_arrive_3 19 rfl rfl)
theorem dX4_arrive_89 : decode cX4_arrive 89 = .ok (.getfield 80, 3) := dk_180 0 80 (dk_at dksX4_arrive_3 20 rfl rfl)
theorem dX4_arrive_92 : decode cX4_arrive 92 = .ok (.ifCond .le 5, 3) := dk_158 0 5 (dk_at dksX4_arrive_4 0 rfl rfl)
theorem dX4_arrive_95 : decode cX4_arrive 95 = .ok (.iconst 0, 1) := dk_3 (dk_at dksX4_arrive_4 3 rfl rfl)
theorem dX4_arrive_96 : decode cX4_arrive 96 = .ok (.ireturn, 1) := dk_172 (dk_at dksX4_arrive_4 4 rfl rfl)
theorem dX4_arrive_97 : decode cX4_arrive 97 = .ok (.aload_n 0, 1) := dk_42 (dk_at dksX4_arrive_4 5 rfl rfl)
theorem dX4_arrive_98 : decode cX4_arrive 98 = .ok (.getfield 71, 3) := dk_180 0 71 (dk_at dksX4_arrive_4 6 rfl rfl)
theorem dX4_arrive_101 : decode cX4_arrive 101 = .ok (.iload_n 1, 1) := dk_27 (dk_at dksX4_arrive_4 9 rfl rfl)
theorem dX4_arrive_102 : decode cX4_arrive 102 = .ok (.iconst 1, 1) := dk_4 (dk_at dksX4_arrive_4 10 rfl rfl)
theorem dX4_arrive_103 : decode cX4_arrive 103 = .ok (.bastore, 1) := dk_84 (dk_at dksX4_arrive_4 11 rfl rfl)
theorem dX4_arrive_104 : decode cX4_arrive 104 = .ok (.iconst 0, 1) := dk_3 (dk_at dksX4_arrive_4 12 rfl rfl)
theorem dX4_arrive_105 : decode cX4_arrive 105 = .ok (.istore_n 3, 1) := dk_62 (dk_at dksX4_arrive_4 13 rfl rfl)
theorem dX4_arrive_106 : decode cX4_arrive 106 = .ok (.iload_n 3, 1) := dk_29 (dk_at dksX4_arrive_4 14 rfl rfl)
theorem dX4_arrive_107 : decode cX4_arrive 107 = .ok (.aload_n 0, 1) := dk_42 (dk_at dksX4_arrive_4 15 rfl rfl)
theorem dX4_arrive_108 : decode cX4_arrive 108 = .ok (.getfield 74, 3) := dk_180 0 74 (dk_at dksX4_arrive_4 16 rfl rfl)
theorem dX4_arrive_111 : decode cX4_arrive 111 = .ok (.iload_n 1, 1) := dk_27 (dk_at dksX4_arrive_4 19 rfl rfl)
theorem dX4_arrive_112 : decode cX4_arrive 112 = .ok (.iaload, 1) := dk_46 (dk_at dksX4_arrive_4 20 rfl rfl)
theorem dX4_arrive_113 : decode cX4_arrive 113 = .ok (.if_icmp .ge 48, 3) := dk_162 0 48 (dk_at dksX4_arrive_4 21 rfl rfl)
theorem dX4_arrive_116 : decode cX4_arrive 116 = .ok (.aload_n 0, 1) := dk_42 (dk_at dksX4_arrive_5 0 rfl rfl)
theorem dX4_arrive_117 : decode cX4_arrive 117 = .ok (.getfield 77, 3) := dk_180 0 77 (dk_at dksX4_arrive_5 1 rfl rfl)
theorem dX4_arrive_120 : decode cX4_arrive 120 = .ok (.bipush 6, 2) := dk_16 6 (dk_at dksX4_arrive_5 4 rfl rfl)
theorem dX4_arrive_122 : decode cX4_arrive 122 = .ok (.iload_n 1, 1) := dk_27 (dk_at dksX4_arrive_5 6 rfl rfl)
theorem dX4_arrive_123 : decode cX4_arrive 123 = .ok (.imul, 1) := dk_104 (dk_at dksX4_arrive_5 7 rfl rfl)
theorem dX4_arrive_124 : decode cX4_arrive 124 = .ok (.iload_n 3, 1) := dk_29 (dk_at dksX4_arrive_5 8 rfl rfl)
theorem dX4_arrive_125 : decode cX4_arrive 125 = .ok (.iadd, 1) := dk_96 (dk_at dksX4_arrive_5 9 rfl rfl)
theorem dX4_arrive_126 : decode cX4_arrive 126 = .ok (.iaload, 1) := dk_46 (dk_at dksX4_arrive_5 10 rfl rfl)
theorem dX4_arrive_127 : decode cX4_arrive 127 = .ok (.istore 4, 2) := dk_54 4 (dk_at dksX4_arrive_5 11 rfl rfl)
theorem dX4_arrive_129 : decode cX4_arrive 129 = .ok (.aload_n 0, 1) := dk_42 (dk_at dksX4_arrive_5 13 rfl rfl)
theorem dX4_arrive_130 : decode cX4_arrive 130 = .ok (.aload_n 0, 1) := dk_42 (dk_at dksX4_arrive_5 14 rfl rfl)
theorem dX4_arrive_131 : decode cX4_arrive 131 = .ok (.getfield 68, 3) := dk_180 0 68 (dk_at dksX4_arrive_5 15 rfl rfl)
theorem dX4_arrive_134 : decode cX4_arrive 134 = .ok (.iload_n 1, 1) := dk_27 (dk_at dksX4_arrive_5 18 rfl rfl)
theorem dX4_arrive_135 : decode cX4_arrive 135 = .ok (.iaload, 1) := dk_46 (dk_at dksX4_arrive_5 19 rfl rfl)
theorem dX4_arrive_136 : decode cX4_arrive 136 = .ok (.iload_n 2, 1) := dk_28 (dk_at dksX4_arrive_5 20 rfl rfl)
theorem dX4_arrive_137 : decode cX4_arrive 137 = .ok (.iload 4, 2) := dk_21 4 (dk_at dksX4_arrive_5 21 rfl rfl)
theorem dX4_arrive_139 : decode cX4_arrive 139 = .ok (.invokevirtual 99, 3) := dk_182 0 99 (dk_at dksX4_arrive_6 0 rfl rfl)
theorem dX4_arrive_142 : decode cX4_arrive 142 = .ok (.aload_n 0, 1) := dk_42 (dk_at dksX4_arrive_6 3 rfl rfl)
theorem dX4_arrive_143 : decode cX4_arrive 143 = .ok (.getfield 47, 3) := dk_180 0 47 (dk_at dksX4_arrive_6 4 rfl rfl)
theorem dX4_arrive_146 : decode cX4_arrive 146 = .ok (.aload_n 0, 1) := dk_42 (dk_at dksX4_arrive_6 7 rfl rfl)
theorem dX4_arrive_147 : decode cX4_arrive 147 = .ok (.getfield 16, 3) := dk_180 0 16 (dk_at dksX4_arrive_6 8 rfl rfl)
theorem dX4_arrive_150 : decode cX4_arrive 150 = .ok (.iload 4, 2) := dk_21 4 (dk_at dksX4_arrive_6 11 rfl rfl)
theorem dX4_arrive_152 : decode cX4_arrive 152 = .ok (.iaload, 1) := dk_46 (dk_at dksX4_arrive_6 13 rfl rfl)
theorem dX4_arrive_153 : decode cX4_arrive 153 = .ok (.iconst 4, 1) := dk_7 (dk_at dksX4_arrive_6 14 rfl rfl)
theorem dX4_arrive_154 : decode cX4_arrive 154 = .ok (.iastore, 1) := dk_79 (dk_at dksX4_arrive_6 15 rfl rfl)
theorem dX4_arrive_155 : decode cX4_arrive 155 = .ok (.iinc 3 1, 3) := dk_132 3 1 (dk_at dksX4_arrive_6 16 rfl rfl)
theorem dX4_arrive_158 : decode cX4_arrive 158 = .ok (.goto (-52), 3) := dk_167 255 204 (dk_at dksX4_arrive_6 19 rfl rfl)
theorem dX4_arrive_161 : decode cX4_arrive 161 = .ok (.aload_n 0, 1) := dk_42 (dk_at dksX4_arrive_6 22 rfl rfl)
theorem dX4_arrive_162 : decode cX4_arrive 162 = .ok (.getfield 19, 3) := dk_180 0 19 (dk_at dksX4_arrive_7 0 rfl rfl)
theorem dX4_arrive_165 : decode cX4_arrive 165 = .ok (.iconst 5, 1) := dk_8 (dk_at dksX4_arrive_7 3 rfl rfl)
theorem dX4_arrive_166 : decode cX4_arrive 166 = .ok (.aload_n 0, 1) := dk_42 (dk_at dksX4_arrive_7 4 rfl rfl)
theorem dX4_arrive_167 : decode cX4_arrive 167 = .ok (.getfield 68, 3) := dk_180 0 68 (dk_at dksX4_arrive_7 5 rfl rfl)
theorem dX4_arrive_170 : decode cX4_arrive 170 = .ok (.iload_n 1, 1) := dk_27 (dk_at dksX4_arrive_7 8 rfl rfl)
theorem dX4_arrive_171 : decode cX4_arrive 171 = .ok (.iaload, 1) := dk_46 (dk_at dksX4_arrive_7 9 rfl rfl)
theorem dX4_arrive_172 : decode cX4_arrive 172 = .ok (.imul, 1) := dk_104 (dk_at dksX4_arrive_7 10 rfl rfl)
theorem dX4_arrive_173 : decode cX4_arrive 173 = .ok (.iload_n 2, 1) := dk_28 (dk_at dksX4_arrive_7 11 rfl rfl)
theorem dX4_arrive_174 : decode cX4_arrive 174 = .ok (.iadd, 1) := dk_96 (dk_at dksX4_arrive_7 12 rfl rfl)
theorem dX4_arrive_175 : decode cX4_arrive 175 = .ok (.iaload, 1) := dk_46 (dk_at dksX4_arrive_7 13 rfl rfl)
theorem dX4_arrive_176 : decode cX4_arrive 176 = .ok (.ireturn, 1) := dk_172 (dk_at dksX4_arrive_7 14 rfl rfl)
abbrev cX4_trains : ByteArray := prog_19_method_59_code
def yX4_trains : MethodName := ⟨RX4, "trains", "()I"⟩
def dkwX4_trains_0 : List UInt8 := [42, 3, 181, 0, 80, 42, 180, 0, 183, 172]
abbrev dktX4_trains_0 : List UInt8 := dkwX4_trains_0 ++ []
theorem dksX4_trains_0 : cX4_trains.data.toList.drop 0 = dktX4_trains_0 := by decide +kernel
theorem dX4_trains_0 : decode cX4_trains 0 = .ok (.aload_n 0, 1) := dk_42 (dk_at dksX4_trains_0 0 rfl rfl)
theorem dX4_trains_1 : decode cX4_trains 1 = .ok (.iconst 0, 1) := dk_3 (dk_at dksX4_trains_0 1 rfl rfl)
theorem dX4_trains_2 : decode cX4_trains 2 = .ok (.putfield 80, 3) := dk_181 0 80 (dk_at dksX4_trains_0 2 rfl rfl)
theorem dX4_trains_5 : decode cX4_trains 5 = .ok (.aload_n 0, 1) := dk_42 (dk_at dksX4_trains_0 5 rfl rfl)
theorem dX4_trains_6 : decode cX4_trains 6 = .ok (.getfield 183, 3) := dk_180 0 183 (dk_at dksX4_trains_0 6 rfl rfl)
theorem dX4_trains_9 : decode cX4_trains 9 = .ok (.ireturn, 1) := dk_172 (dk_at dksX4_trains_0 9 rfl rfl)
theorem q82 : (Jvm.Cond.initialized "TrunkYardsModel") ∈ lw_all := lw_g (lw_at lw_m1 34 rfl) rfl
theorem q270 : (Jvm.Cond.selects "TrunkYardsModel" ({ cls := "java/lang/Object", name := "getClass", desc := "()Ljava/lang/Class;" } : Jvm.MethodName) ({ cls := "java/lang/Object", name := "getClass", desc := "()Ljava/lang/Class;" } : Jvm.MethodName)) ∈ lw_all := lw_g (lw_at lw_m1 222 rfl) rfl
theorem q376 : (Jvm.Cond.selects "TrunkYardsModel" ({ cls := "java/lang/Object", name := "hashCode", desc := "()I" } : Jvm.MethodName) ({ cls := "java/lang/Object", name := "hashCode", desc := "()I" } : Jvm.MethodName)) ∈ lw_all := lw_g (lw_at lw_m2 88 rfl) rfl
theorem q1100 : (Jvm.Cond.selects "TrunkYardsModel" ({ cls := "java/lang/Object", name := "equals", desc := "(Ljava/lang/Object;)Z" } : Jvm.MethodName) ({ cls := "java/lang/Object", name := "equals", desc := "(Ljava/lang/Object;)Z" } : Jvm.MethodName)) ∈ lw_all := lw_g (lw_at lw_m5 92 rfl) rfl
theorem q2341 : (Jvm.Cond.instantiable "TrunkYardsModel" (30 : Nat)) ∈ lw_all := lw_g (lw_at lw_m10 133 rfl) rfl
theorem q2343 : (Jvm.Cond.instanceMethod ({ cls := "TrunkYardsModel", name := "<init>", desc := "()V" } : Jvm.MethodName)) ∈ lw_all := lw_g (lw_at lw_m10 135 rfl) rfl
theorem q2344 : (Jvm.Cond.code ({ cls := "TrunkYardsModel", name := "<init>", desc := "()V" } : Jvm.MethodName) prog_19_method_1_code (1 : Nat) (Option.none : Option Jvm.ClassFile.FieldType)) ∈ lw_all := lw_g (lw_at lw_m10 136 rfl) rfl
theorem q2345 : (Jvm.Cond.methodLink "TrunkYardsModel" (1 : Nat) ({ cls := "java/lang/Object", name := "<init>", desc := "()V" } : Jvm.MethodName)) ∈ lw_all := lw_g (lw_at lw_m10 137 rfl) rfl
theorem q2346 : (Jvm.Cond.fieldLink "TrunkYardsModel" (80 : Nat) "TrunkYardsModel" "thrown" "I") ∈ lw_all := lw_g (lw_at lw_m10 138 rfl) rfl
theorem q2347 : (Jvm.Cond.fieldLink "TrunkYardsModel" (171 : Nat) "TrunkYardsModel" "now" "I") ∈ lw_all := lw_g (lw_at lw_m10 139 rfl) rfl
theorem q2348 : (Jvm.Cond.fieldLink "TrunkYardsModel" (92 : Nat) "TrunkYardsModel" "wagons" "I") ∈ lw_all := lw_g (lw_at lw_m10 140 rfl) rfl
theorem q2349 : (Jvm.Cond.fieldLink "TrunkYardsModel" (7 : Nat) "TrunkYardsModel" "where" "[I") ∈ lw_all := lw_g (lw_at lw_m10 141 rfl) rfl
theorem q2350 : (Jvm.Cond.fieldLink "TrunkYardsModel" (13 : Nat) "TrunkYardsModel" "carried" "[I") ∈ lw_all := lw_g (lw_at lw_m10 142 rfl) rfl
theorem q2351 : (Jvm.Cond.fieldLink "TrunkYardsModel" (16 : Nat) "TrunkYardsModel" "booking" "[I") ∈ lw_all := lw_g (lw_at lw_m10 143 rfl) rfl
theorem q2352 : (Jvm.Cond.fieldLink "TrunkYardsModel" (19 : Nat) "TrunkYardsModel" "on" "[I") ∈ lw_all := lw_g (lw_at lw_m10 144 rfl) rfl
theorem q2353 : (Jvm.Cond.fieldLink "TrunkYardsModel" (22 : Nat) "TrunkYardsModel" "track" "[I") ∈ lw_all := lw_g (lw_at lw_m10 145 rfl) rfl
theorem q2354 : (Jvm.Cond.fieldLink "TrunkYardsModel" (25 : Nat) "TrunkYardsModel" "follows" "[I") ∈ lw_all := lw_g (lw_at lw_m10 146 rfl) rfl
theorem q2355 : (Jvm.Cond.fieldLink "TrunkYardsModel" (28 : Nat) "TrunkYardsModel" "trunk" "[I") ∈ lw_all := lw_g (lw_at lw_m10 147 rfl) rfl
theorem q2356 : (Jvm.Cond.fieldLink "TrunkYardsModel" (31 : Nat) "TrunkYardsModel" "lines" "[I") ∈ lw_all := lw_g (lw_at lw_m10 148 rfl) rfl
theorem q2357 : (Jvm.Cond.fieldLink "TrunkYardsModel" (119 : Nat) "TrunkYardsModel" "calls" "I") ∈ lw_all := lw_g (lw_at lw_m10 149 rfl) rfl
theorem q2358 : (Jvm.Cond.fieldLink "TrunkYardsModel" (142 : Nat) "TrunkYardsModel" "busy" "I") ∈ lw_all := lw_g (lw_at lw_m10 150 rfl) rfl
theorem q2359 : (Jvm.Cond.fieldLink "TrunkYardsModel" (34 : Nat) "TrunkYardsModel" "customer" "[I") ∈ lw_all := lw_g (lw_at lw_m10 151 rfl) rfl
theorem q2360 : (Jvm.Cond.fieldLink "TrunkYardsModel" (37 : Nat) "TrunkYardsModel" "yard" "[I") ∈ lw_all := lw_g (lw_at lw_m10 152 rfl) rfl
theorem q2361 : (Jvm.Cond.fieldLink "TrunkYardsModel" (40 : Nat) "TrunkYardsModel" "goesOn" "[Z") ∈ lw_all := lw_g (lw_at lw_m10 153 rfl) rfl
theorem q2362 : (Jvm.Cond.fieldLink "TrunkYardsModel" (44 : Nat) "TrunkYardsModel" "open" "[I") ∈ lw_all := lw_g (lw_at lw_m10 154 rfl) rfl
theorem q2363 : (Jvm.Cond.fieldLink "TrunkYardsModel" (122 : Nat) "TrunkYardsModel" "bookings" "I") ∈ lw_all := lw_g (lw_at lw_m10 155 rfl) rfl
theorem q2364 : (Jvm.Cond.fieldLink "TrunkYardsModel" (47 : Nat) "TrunkYardsModel" "state" "[I") ∈ lw_all := lw_g (lw_at lw_m10 156 rfl) rfl
theorem q2365 : (Jvm.Cond.fieldLink "TrunkYardsModel" (50 : Nat) "TrunkYardsModel" "grain" "[I") ∈ lw_all := lw_g (lw_at lw_m10 157 rfl) rfl
theorem q2366 : (Jvm.Cond.fieldLink "TrunkYardsModel" (53 : Nat) "TrunkYardsModel" "owner" "[I") ∈ lw_all := lw_g (lw_at lw_m10 158 rfl) rfl
theorem q2367 : (Jvm.Cond.fieldLink "TrunkYardsModel" (56 : Nat) "TrunkYardsModel" "booked" "[I") ∈ lw_all := lw_g (lw_at lw_m10 159 rfl) rfl
theorem q2368 : (Jvm.Cond.fieldLink "TrunkYardsModel" (59 : Nat) "TrunkYardsModel" "lapse" "[I") ∈ lw_all := lw_g (lw_at lw_m10 160 rfl) rfl
theorem q2369 : (Jvm.Cond.fieldLink "TrunkYardsModel" (62 : Nat) "TrunkYardsModel" "many" "[I") ∈ lw_all := lw_g (lw_at lw_m10 161 rfl) rfl
theorem q2370 : (Jvm.Cond.fieldLink "TrunkYardsModel" (65 : Nat) "TrunkYardsModel" "wagonOf" "[I") ∈ lw_all := lw_g (lw_at lw_m10 162 rfl) rfl
theorem q2371 : (Jvm.Cond.fieldLink "TrunkYardsModel" (183 : Nat) "TrunkYardsModel" "trains" "I") ∈ lw_all := lw_g (lw_at lw_m10 163 rfl) rfl
theorem q2372 : (Jvm.Cond.fieldLink "TrunkYardsModel" (68 : Nat) "TrunkYardsModel" "goesTo" "[I") ∈ lw_all := lw_g (lw_at lw_m10 164 rfl) rfl
theorem q2373 : (Jvm.Cond.fieldLink "TrunkYardsModel" (71 : Nat) "TrunkYardsModel" "hasArrived" "[Z") ∈ lw_all := lw_g (lw_at lw_m10 165 rfl) rfl
theorem q2374 : (Jvm.Cond.fieldLink "TrunkYardsModel" (74 : Nat) "TrunkYardsModel" "length" "[I") ∈ lw_all := lw_g (lw_at lw_m10 166 rfl) rfl
theorem q2375 : (Jvm.Cond.fieldLink "TrunkYardsModel" (77 : Nat) "TrunkYardsModel" "train" "[I") ∈ lw_all := lw_g (lw_at lw_m10 167 rfl) rfl
theorem q2376 : (Jvm.Cond.lays "TrunkYardsModel" "TrunkYardsModel" "thrown" "I") ∈ lw_all := lw_g (lw_at lw_m10 168 rfl) rfl
theorem q2377 : (Jvm.Cond.soleField "TrunkYardsModel" "thrown") ∈ lw_all := lw_g (lw_at lw_m10 169 rfl) rfl
theorem q2378 : (Jvm.Cond.lays "TrunkYardsModel" "TrunkYardsModel" "now" "I") ∈ lw_all := lw_g (lw_at lw_m10 170 rfl) rfl
theorem q2379 : (Jvm.Cond.soleField "TrunkYardsModel" "now") ∈ lw_all := lw_g (lw_at lw_m10 171 rfl) rfl
theorem q2380 : (Jvm.Cond.lays "TrunkYardsModel" "TrunkYardsModel" "wagons" "I") ∈ lw_all := lw_g (lw_at lw_m10 172 rfl) rfl
theorem q2381 : (Jvm.Cond.soleField "TrunkYardsModel" "wagons") ∈ lw_all := lw_g (lw_at lw_m10 173 rfl) rfl
theorem q2382 : (Jvm.Cond.laysFinal "TrunkYardsModel" "TrunkYardsModel" "where" "[I") ∈ lw_all := lw_g (lw_at lw_m10 174 rfl) rfl
theorem q2383 : (Jvm.Cond.soleField "TrunkYardsModel" "where") ∈ lw_all := lw_g (lw_at lw_m10 175 rfl) rfl
theorem q2384 : (Jvm.Cond.laysFinal "TrunkYardsModel" "TrunkYardsModel" "carried" "[I") ∈ lw_all := lw_g (lw_at lw_m10 176 rfl) rfl
theorem q2385 : (Jvm.Cond.soleField "TrunkYardsModel" "carried") ∈ lw_all := lw_g (lw_at lw_m10 177 rfl) rfl
theorem q2386 : (Jvm.Cond.laysFinal "TrunkYardsModel" "TrunkYardsModel" "booking" "[I") ∈ lw_all := lw_g (lw_at lw_m10 178 rfl) rfl
theorem q2387 : (Jvm.Cond.soleField "TrunkYardsModel" "booking") ∈ lw_all := lw_g (lw_at lw_m10 179 rfl) rfl
theorem q2388 : (Jvm.Cond.laysFinal "TrunkYardsModel" "TrunkYardsModel" "on" "[I") ∈ lw_all := lw_g (lw_at lw_m10 180 rfl) rfl
theorem q2389 : (Jvm.Cond.soleField "TrunkYardsModel" "on") ∈ lw_all := lw_g (lw_at lw_m10 181 rfl) rfl
theorem q2390 : (Jvm.Cond.laysFinal "TrunkYardsModel" "TrunkYardsModel" "track" "[I") ∈ lw_all := lw_g (lw_at lw_m10 182 rfl) rfl
theorem q2391 : (Jvm.Cond.soleField "TrunkYardsModel" "track") ∈ lw_all := lw_g (lw_at lw_m10 183 rfl) rfl
theorem q2392 : (Jvm.Cond.laysFinal "TrunkYardsModel" "TrunkYardsModel" "follows" "[I") ∈ lw_all := lw_g (lw_at lw_m10 184 rfl) rfl
theorem q2393 : (Jvm.Cond.soleField "TrunkYardsModel" "follows") ∈ lw_all := lw_g (lw_at lw_m10 185 rfl) rfl
theorem q2394 : (Jvm.Cond.laysFinal "TrunkYardsModel" "TrunkYardsModel" "trunk" "[I") ∈ lw_all := lw_g (lw_at lw_m10 186 rfl) rfl
theorem q2395 : (Jvm.Cond.soleField "TrunkYardsModel" "trunk") ∈ lw_all := lw_g (lw_at lw_m10 187 rfl) rfl
theorem q2396 : (Jvm.Cond.laysFinal "TrunkYardsModel" "TrunkYardsModel" "lines" "[I") ∈ lw_all := lw_g (lw_at lw_m10 188 rfl) rfl
theorem q2397 : (Jvm.Cond.soleField "TrunkYardsModel" "lines") ∈ lw_all := lw_g (lw_at lw_m10 189 rfl) rfl
theorem q2398 : (Jvm.Cond.lays "TrunkYardsModel" "TrunkYardsModel" "calls" "I") ∈ lw_all := lw_g (lw_at lw_m10 190 rfl) rfl
theorem q2399 : (Jvm.Cond.soleField "TrunkYardsModel" "calls") ∈ lw_all := lw_g (lw_at lw_m10 191 rfl) rfl
theorem q2400 : (Jvm.Cond.lays "TrunkYardsModel" "TrunkYardsModel" "busy" "I") ∈ lw_all := lw_g (lw_at lw_m10 192 rfl) rfl
theorem q2401 : (Jvm.Cond.soleField "TrunkYardsModel" "busy") ∈ lw_all := lw_g (lw_at lw_m10 193 rfl) rfl
theorem q2402 : (Jvm.Cond.laysFinal "TrunkYardsModel" "TrunkYardsModel" "customer" "[I") ∈ lw_all := lw_g (lw_at lw_m10 194 rfl) rfl
theorem q2403 : (Jvm.Cond.soleField "TrunkYardsModel" "customer") ∈ lw_all := lw_g (lw_at lw_m10 195 rfl) rfl
theorem q2404 : (Jvm.Cond.laysFinal "TrunkYardsModel" "TrunkYardsModel" "yard" "[I") ∈ lw_all := lw_g (lw_at lw_m10 196 rfl) rfl
theorem q2405 : (Jvm.Cond.soleField "TrunkYardsModel" "yard") ∈ lw_all := lw_g (lw_at lw_m10 197 rfl) rfl
theorem q2406 : (Jvm.Cond.laysFinal "TrunkYardsModel" "TrunkYardsModel" "goesOn" "[Z") ∈ lw_all := lw_g (lw_at lw_m10 198 rfl) rfl
theorem q2407 : (Jvm.Cond.soleField "TrunkYardsModel" "goesOn") ∈ lw_all := lw_g (lw_at lw_m10 199 rfl) rfl
theorem q2408 : (Jvm.Cond.laysFinal "TrunkYardsModel" "TrunkYardsModel" "open" "[I") ∈ lw_all := lw_g (lw_at lw_m10 200 rfl) rfl
theorem q2409 : (Jvm.Cond.soleField "TrunkYardsModel" "open") ∈ lw_all := lw_g (lw_at lw_m10 201 rfl) rfl
theorem q2410 : (Jvm.Cond.lays "TrunkYardsModel" "TrunkYardsModel" "bookings" "I") ∈ lw_all := lw_g (lw_at lw_m10 202 rfl) rfl
theorem q2411 : (Jvm.Cond.soleField "TrunkYardsModel" "bookings") ∈ lw_all := lw_g (lw_at lw_m10 203 rfl) rfl
theorem q2412 : (Jvm.Cond.laysFinal "TrunkYardsModel" "TrunkYardsModel" "state" "[I") ∈ lw_all := lw_g (lw_at lw_m10 204 rfl) rfl
theorem q2413 : (Jvm.Cond.soleField "TrunkYardsModel" "state") ∈ lw_all := lw_g (lw_at lw_m10 205 rfl) rfl
theorem q2414 : (Jvm.Cond.laysFinal "TrunkYardsModel" "TrunkYardsModel" "grain" "[I") ∈ lw_all := lw_g (lw_at lw_m10 206 rfl) rfl
theorem q2415 : (Jvm.Cond.soleField "TrunkYardsModel" "grain") ∈ lw_all := lw_g (lw_at lw_m10 207 rfl) rfl
theorem q2416 : (Jvm.Cond.laysFinal "TrunkYardsModel" "TrunkYardsModel" "owner" "[I") ∈ lw_all := lw_g (lw_at lw_m10 208 rfl) rfl
theorem q2417 : (Jvm.Cond.soleField "TrunkYardsModel" "owner") ∈ lw_all := lw_g (lw_at lw_m10 209 rfl) rfl
theorem q2418 : (Jvm.Cond.laysFinal "TrunkYardsModel" "TrunkYardsModel" "booked" "[I") ∈ lw_all := lw_g (lw_at lw_m10 210 rfl) rfl
theorem q2419 : (Jvm.Cond.soleField "TrunkYardsModel" "booked") ∈ lw_all := lw_g (lw_at lw_m10 211 rfl) rfl
theorem q2420 : (Jvm.Cond.laysFinal "TrunkYardsModel" "TrunkYardsModel" "lapse" "[I") ∈ lw_all := lw_g (lw_at lw_m10 212 rfl) rfl
theorem q2421 : (Jvm.Cond.soleField "TrunkYardsModel" "lapse") ∈ lw_all := lw_g (lw_at lw_m10 213 rfl) rfl
theorem q2422 : (Jvm.Cond.laysFinal "TrunkYardsModel" "TrunkYardsModel" "many" "[I") ∈ lw_all := lw_g (lw_at lw_m10 214 rfl) rfl
theorem q2423 : (Jvm.Cond.soleField "TrunkYardsModel" "many") ∈ lw_all := lw_g (lw_at lw_m10 215 rfl) rfl
theorem q2424 : (Jvm.Cond.laysFinal "TrunkYardsModel" "TrunkYardsModel" "wagonOf" "[I") ∈ lw_all := lw_g (lw_at lw_m10 216 rfl) rfl
theorem q2425 : (Jvm.Cond.soleField "TrunkYardsModel" "wagonOf") ∈ lw_all := lw_g (lw_at lw_m10 217 rfl) rfl
theorem q2426 : (Jvm.Cond.lays "TrunkYardsModel" "TrunkYardsModel" "trains" "I") ∈ lw_all := lw_g (lw_at lw_m10 218 rfl) rfl
theorem q2427 : (Jvm.Cond.soleField "TrunkYardsModel" "trains") ∈ lw_all := lw_g (lw_at lw_m10 219 rfl) rfl
theorem q2428 : (Jvm.Cond.laysFinal "TrunkYardsModel" "TrunkYardsModel" "goesTo" "[I") ∈ lw_all := lw_g (lw_at lw_m10 220 rfl) rfl
theorem q2429 : (Jvm.Cond.soleField "TrunkYardsModel" "goesTo") ∈ lw_all := lw_g (lw_at lw_m10 221 rfl) rfl
theorem q2430 : (Jvm.Cond.laysFinal "TrunkYardsModel" "TrunkYardsModel" "hasArrived" "[Z") ∈ lw_all := lw_g (lw_at lw_m10 222 rfl) rfl
theorem q2431 : (Jvm.Cond.soleField "TrunkYardsModel" "hasArrived") ∈ lw_all := lw_g (lw_at lw_m10 223 rfl) rfl
theorem q2432 : (Jvm.Cond.laysFinal "TrunkYardsModel" "TrunkYardsModel" "length" "[I") ∈ lw_all := lw_g (lw_at lw_m10 224 rfl) rfl
theorem q2433 : (Jvm.Cond.soleField "TrunkYardsModel" "length") ∈ lw_all := lw_g (lw_at lw_m10 225 rfl) rfl
theorem q2434 : (Jvm.Cond.laysFinal "TrunkYardsModel" "TrunkYardsModel" "train" "[I") ∈ lw_all := lw_g (lw_at lw_m10 226 rfl) rfl
theorem q2435 : (Jvm.Cond.soleField "TrunkYardsModel" "train") ∈ lw_all := lw_g (lw_at lw_m10 227 rfl) rfl
theorem q2436 : (Jvm.Cond.superclass "TrunkYardsModel" "java/lang/Object") ∈ lw_all := lw_g (lw_at lw_m10 228 rfl) rfl
theorem q2438 : (Jvm.Cond.instanceMethod ({ cls := "TrunkYardsModel", name := "thrown", desc := "()I" } : Jvm.MethodName)) ∈ lw_all := lw_g (lw_at lw_m10 230 rfl) rfl
theorem q2439 : (Jvm.Cond.selects "TrunkYardsModel" ({ cls := "TrunkYardsModel", name := "thrown", desc := "()I" } : Jvm.MethodName) ({ cls := "TrunkYardsModel", name := "thrown", desc := "()I" } : Jvm.MethodName)) ∈ lw_all := lw_g (lw_at lw_m10 231 rfl) rfl
theorem q2440 : (Jvm.Cond.code ({ cls := "TrunkYardsModel", name := "thrown", desc := "()I" } : Jvm.MethodName) prog_19_method_2_code (1 : Nat) (Option.some Jvm.ClassFile.FieldType.int)) ∈ lw_all := lw_g (lw_at lw_m10 232 rfl) rfl
theorem q2442 : (Jvm.Cond.instanceMethod ({ cls := "TrunkYardsModel", name := "wagon", desc := "(II)I" } : Jvm.MethodName)) ∈ lw_all := lw_g (lw_at lw_m10 234 rfl) rfl
theorem q2443 : (Jvm.Cond.selects "TrunkYardsModel" ({ cls := "TrunkYardsModel", name := "wagon", desc := "(II)I" } : Jvm.MethodName) ({ cls := "TrunkYardsModel", name := "wagon", desc := "(II)I" } : Jvm.MethodName)) ∈ lw_all := lw_g (lw_at lw_m10 235 rfl) rfl
theorem q2444 : (Jvm.Cond.code ({ cls := "TrunkYardsModel", name := "wagon", desc := "(II)I" } : Jvm.MethodName) prog_19_method_9_code (3 : Nat) (Option.some Jvm.ClassFile.FieldType.int)) ∈ lw_all := lw_g (lw_at lw_m10 236 rfl) rfl
theorem q2445 : (Jvm.Cond.methodLink "TrunkYardsModel" (95 : Nat) ({ cls := "TrunkYardsModel", name := "isTrack", desc := "(II)Z" } : Jvm.MethodName)) ∈ lw_all := lw_g (lw_at lw_m10 237 rfl) rfl
theorem q2446 : (Jvm.Cond.static ({ cls := "TrunkYardsModel", name := "isTrack", desc := "(II)Z" } : Jvm.MethodName)) ∈ lw_all := lw_g (lw_at lw_m10 238 rfl) rfl
theorem q2447 : (Jvm.Cond.code ({ cls := "TrunkYardsModel", name := "isTrack", desc := "(II)Z" } : Jvm.MethodName) prog_19_method_5_code (2 : Nat) (Option.some Jvm.ClassFile.FieldType.boolean)) ∈ lw_all := lw_g (lw_at lw_m10 239 rfl) rfl
theorem q2448 : (Jvm.Cond.methodLink "TrunkYardsModel" (88 : Nat) ({ cls := "TrunkYardsModel", name := "isYard", desc := "(I)Z" } : Jvm.MethodName)) ∈ lw_all := lw_g (lw_at lw_m11 0 rfl) rfl
theorem q2449 : (Jvm.Cond.static ({ cls := "TrunkYardsModel", name := "isYard", desc := "(I)Z" } : Jvm.MethodName)) ∈ lw_all := lw_g (lw_at lw_m11 1 rfl) rfl
theorem q2450 : (Jvm.Cond.code ({ cls := "TrunkYardsModel", name := "isYard", desc := "(I)Z" } : Jvm.MethodName) prog_19_method_4_code (1 : Nat) (Option.some Jvm.ClassFile.FieldType.boolean)) ∈ lw_all := lw_g (lw_at lw_m11 2 rfl) rfl
theorem q2451 : (Jvm.Cond.methodLink "TrunkYardsModel" (84 : Nat) ({ cls := "TrunkYardsModel", name := "in", desc := "(III)Z" } : Jvm.MethodName)) ∈ lw_all := lw_g (lw_at lw_m11 3 rfl) rfl
theorem q2452 : (Jvm.Cond.static ({ cls := "TrunkYardsModel", name := "in", desc := "(III)Z" } : Jvm.MethodName)) ∈ lw_all := lw_g (lw_at lw_m11 4 rfl) rfl
theorem q2453 : (Jvm.Cond.code ({ cls := "TrunkYardsModel", name := "in", desc := "(III)Z" } : Jvm.MethodName) prog_19_method_3_code (3 : Nat) (Option.some Jvm.ClassFile.FieldType.boolean)) ∈ lw_all := lw_g (lw_at lw_m11 5 rfl) rfl
theorem q2454 : (Jvm.Cond.methodLink "TrunkYardsModel" (99 : Nat) ({ cls := "TrunkYardsModel", name := "puts", desc := "(III)V" } : Jvm.MethodName)) ∈ lw_all := lw_g (lw_at lw_m11 6 rfl) rfl
theorem q2455 : (Jvm.Cond.privateMethod ({ cls := "TrunkYardsModel", name := "puts", desc := "(III)V" } : Jvm.MethodName)) ∈ lw_tbl := lw_at lw_m11 7 rfl
theorem q2456 : (Jvm.Cond.instanceMethod ({ cls := "TrunkYardsModel", name := "puts", desc := "(III)V" } : Jvm.MethodName)) ∈ lw_all := lw_g (lw_at lw_m11 8 rfl) rfl
theorem q2457 : (Jvm.Cond.code ({ cls := "TrunkYardsModel", name := "puts", desc := "(III)V" } : Jvm.MethodName) prog_19_method_8_code (5 : Nat) (Option.none : Option Jvm.ClassFile.FieldType)) ∈ lw_all := lw_g (lw_at lw_m11 9 rfl) rfl
theorem q2459 : (Jvm.Cond.instanceMethod ({ cls := "TrunkYardsModel", name := "shunt", desc := "(IIII)I" } : Jvm.MethodName)) ∈ lw_all := lw_g (lw_at lw_m11 11 rfl) rfl
theorem q2460 : (Jvm.Cond.selects "TrunkYardsModel" ({ cls := "TrunkYardsModel", name := "shunt", desc := "(IIII)I" } : Jvm.MethodName) ({ cls := "TrunkYardsModel", name := "shunt", desc := "(IIII)I" } : Jvm.MethodName)) ∈ lw_all := lw_g (lw_at lw_m11 12 rfl) rfl
theorem q2461 : (Jvm.Cond.code ({ cls := "TrunkYardsModel", name := "shunt", desc := "(IIII)I" } : Jvm.MethodName) prog_19_method_10_code (8 : Nat) (Option.some Jvm.ClassFile.FieldType.int)) ∈ lw_all := lw_g (lw_at lw_m11 13 rfl) rfl
theorem q2463 : (Jvm.Cond.instanceMethod ({ cls := "TrunkYardsModel", name := "wash", desc := "(I)I" } : Jvm.MethodName)) ∈ lw_all := lw_g (lw_at lw_m11 15 rfl) rfl
theorem q2464 : (Jvm.Cond.selects "TrunkYardsModel" ({ cls := "TrunkYardsModel", name := "wash", desc := "(I)I" } : Jvm.MethodName) ({ cls := "TrunkYardsModel", name := "wash", desc := "(I)I" } : Jvm.MethodName)) ∈ lw_all := lw_g (lw_at lw_m11 16 rfl) rfl
theorem q2465 : (Jvm.Cond.code ({ cls := "TrunkYardsModel", name := "wash", desc := "(I)I" } : Jvm.MethodName) prog_19_method_11_code (5 : Nat) (Option.some Jvm.ClassFile.FieldType.int)) ∈ lw_all := lw_g (lw_at lw_m11 17 rfl) rfl
theorem q2467 : (Jvm.Cond.instanceMethod ({ cls := "TrunkYardsModel", name := "follow", desc := "(II)Z" } : Jvm.MethodName)) ∈ lw_all := lw_g (lw_at lw_m11 19 rfl) rfl
theorem q2468 : (Jvm.Cond.selects "TrunkYardsModel" ({ cls := "TrunkYardsModel", name := "follow", desc := "(II)Z" } : Jvm.MethodName) ({ cls := "TrunkYardsModel", name := "follow", desc := "(II)Z" } : Jvm.MethodName)) ∈ lw_all := lw_g (lw_at lw_m11 20 rfl) rfl
theorem q2469 : (Jvm.Cond.code ({ cls := "TrunkYardsModel", name := "follow", desc := "(II)Z" } : Jvm.MethodName) prog_19_method_12_code (3 : Nat) (Option.some Jvm.ClassFile.FieldType.boolean)) ∈ lw_all := lw_g (lw_at lw_m11 21 rfl) rfl
theorem q2470 : (Jvm.Cond.methodLink "TrunkYardsModel" (103 : Nat) ({ cls := "TrunkYardsModel", name := "isGrain", desc := "(I)Z" } : Jvm.MethodName)) ∈ lw_all := lw_g (lw_at lw_m11 22 rfl) rfl
theorem q2471 : (Jvm.Cond.static ({ cls := "TrunkYardsModel", name := "isGrain", desc := "(I)Z" } : Jvm.MethodName)) ∈ lw_all := lw_g (lw_at lw_m11 23 rfl) rfl
theorem q2472 : (Jvm.Cond.code ({ cls := "TrunkYardsModel", name := "isGrain", desc := "(I)Z" } : Jvm.MethodName) prog_19_method_6_code (1 : Nat) (Option.some Jvm.ClassFile.FieldType.boolean)) ∈ lw_all := lw_g (lw_at lw_m11 24 rfl) rfl
theorem q2474 : (Jvm.Cond.instanceMethod ({ cls := "TrunkYardsModel", name := "on", desc := "(II)I" } : Jvm.MethodName)) ∈ lw_all := lw_g (lw_at lw_m11 26 rfl) rfl
theorem q2475 : (Jvm.Cond.selects "TrunkYardsModel" ({ cls := "TrunkYardsModel", name := "on", desc := "(II)I" } : Jvm.MethodName) ({ cls := "TrunkYardsModel", name := "on", desc := "(II)I" } : Jvm.MethodName)) ∈ lw_all := lw_g (lw_at lw_m11 27 rfl) rfl
theorem q2476 : (Jvm.Cond.code ({ cls := "TrunkYardsModel", name := "on", desc := "(II)I" } : Jvm.MethodName) prog_19_method_13_code (3 : Nat) (Option.some Jvm.ClassFile.FieldType.int)) ∈ lw_all := lw_g (lw_at lw_m11 28 rfl) rfl
theorem q2478 : (Jvm.Cond.instanceMethod ({ cls := "TrunkYardsModel", name := "at", desc := "(III)I" } : Jvm.MethodName)) ∈ lw_all := lw_g (lw_at lw_m11 30 rfl) rfl
theorem q2479 : (Jvm.Cond.selects "TrunkYardsModel" ({ cls := "TrunkYardsModel", name := "at", desc := "(III)I" } : Jvm.MethodName) ({ cls := "TrunkYardsModel", name := "at", desc := "(III)I" } : Jvm.MethodName)) ∈ lw_all := lw_g (lw_at lw_m11 31 rfl) rfl
theorem q2480 : (Jvm.Cond.code ({ cls := "TrunkYardsModel", name := "at", desc := "(III)I" } : Jvm.MethodName) prog_19_method_15_code (4 : Nat) (Option.some Jvm.ClassFile.FieldType.int)) ∈ lw_all := lw_g (lw_at lw_m11 32 rfl) rfl
theorem q2481 : (Jvm.Cond.methodLink "TrunkYardsModel" (106 : Nat) ({ cls := "TrunkYardsModel", name := "wagonAt", desc := "(III)I" } : Jvm.MethodName)) ∈ lw_all := lw_g (lw_at lw_m11 33 rfl) rfl
theorem q2482 : (Jvm.Cond.privateMethod ({ cls := "TrunkYardsModel", name := "wagonAt", desc := "(III)I" } : Jvm.MethodName)) ∈ lw_tbl := lw_at lw_m11 34 rfl
theorem q2483 : (Jvm.Cond.instanceMethod ({ cls := "TrunkYardsModel", name := "wagonAt", desc := "(III)I" } : Jvm.MethodName)) ∈ lw_all := lw_g (lw_at lw_m11 35 rfl) rfl
theorem q2484 : (Jvm.Cond.code ({ cls := "TrunkYardsModel", name := "wagonAt", desc := "(III)I" } : Jvm.MethodName) prog_19_method_14_code (4 : Nat) (Option.some Jvm.ClassFile.FieldType.int)) ∈ lw_all := lw_g (lw_at lw_m11 36 rfl) rfl
theorem q2486 : (Jvm.Cond.instanceMethod ({ cls := "TrunkYardsModel", name := "atByReplay", desc := "(III)I" } : Jvm.MethodName)) ∈ lw_all := lw_g (lw_at lw_m11 38 rfl) rfl
theorem q2487 : (Jvm.Cond.selects "TrunkYardsModel" ({ cls := "TrunkYardsModel", name := "atByReplay", desc := "(III)I" } : Jvm.MethodName) ({ cls := "TrunkYardsModel", name := "atByReplay", desc := "(III)I" } : Jvm.MethodName)) ∈ lw_all := lw_g (lw_at lw_m11 39 rfl) rfl
theorem q2488 : (Jvm.Cond.code ({ cls := "TrunkYardsModel", name := "atByReplay", desc := "(III)I" } : Jvm.MethodName) prog_19_method_16_code (4 : Nat) (Option.some Jvm.ClassFile.FieldType.int)) ∈ lw_all := lw_g (lw_at lw_m11 40 rfl) rfl
theorem q2490 : (Jvm.Cond.instanceMethod ({ cls := "TrunkYardsModel", name := "where", desc := "(I)I" } : Jvm.MethodName)) ∈ lw_all := lw_g (lw_at lw_m11 42 rfl) rfl
theorem q2491 : (Jvm.Cond.selects "TrunkYardsModel" ({ cls := "TrunkYardsModel", name := "where", desc := "(I)I" } : Jvm.MethodName) ({ cls := "TrunkYardsModel", name := "where", desc := "(I)I" } : Jvm.MethodName)) ∈ lw_all := lw_g (lw_at lw_m11 43 rfl) rfl
theorem q2492 : (Jvm.Cond.code ({ cls := "TrunkYardsModel", name := "where", desc := "(I)I" } : Jvm.MethodName) prog_19_method_18_code (2 : Nat) (Option.some Jvm.ClassFile.FieldType.int)) ∈ lw_all := lw_g (lw_at lw_m11 44 rfl) rfl
theorem q2493 : (Jvm.Cond.methodLink "TrunkYardsModel" (113 : Nat) ({ cls := "TrunkYardsModel", name := "asksWagon", desc := "(I)Z" } : Jvm.MethodName)) ∈ lw_all := lw_g (lw_at lw_m11 45 rfl) rfl
theorem q2494 : (Jvm.Cond.privateMethod ({ cls := "TrunkYardsModel", name := "asksWagon", desc := "(I)Z" } : Jvm.MethodName)) ∈ lw_tbl := lw_at lw_m11 46 rfl
theorem q2495 : (Jvm.Cond.instanceMethod ({ cls := "TrunkYardsModel", name := "asksWagon", desc := "(I)Z" } : Jvm.MethodName)) ∈ lw_all := lw_g (lw_at lw_m11 47 rfl) rfl
theorem q2496 : (Jvm.Cond.code ({ cls := "TrunkYardsModel", name := "asksWagon", desc := "(I)Z" } : Jvm.MethodName) prog_19_method_17_code (2 : Nat) (Option.some Jvm.ClassFile.FieldType.boolean)) ∈ lw_all := lw_g (lw_at lw_m11 48 rfl) rfl
theorem q2497 : (Jvm.Cond.methodLink "TrunkYardsModel" (110 : Nat) ({ cls := "TrunkYardsModel", name := "isWagon", desc := "(I)Z" } : Jvm.MethodName)) ∈ lw_all := lw_g (lw_at lw_m11 49 rfl) rfl
theorem q2498 : (Jvm.Cond.privateMethod ({ cls := "TrunkYardsModel", name := "isWagon", desc := "(I)Z" } : Jvm.MethodName)) ∈ lw_tbl := lw_at lw_m11 50 rfl
theorem q2499 : (Jvm.Cond.instanceMethod ({ cls := "TrunkYardsModel", name := "isWagon", desc := "(I)Z" } : Jvm.MethodName)) ∈ lw_all := lw_g (lw_at lw_m11 51 rfl) rfl
theorem q2500 : (Jvm.Cond.code ({ cls := "TrunkYardsModel", name := "isWagon", desc := "(I)Z" } : Jvm.MethodName) prog_19_method_7_code (2 : Nat) (Option.some Jvm.ClassFile.FieldType.boolean)) ∈ lw_all := lw_g (lw_at lw_m11 52 rfl) rfl
theorem q2502 : (Jvm.Cond.instanceMethod ({ cls := "TrunkYardsModel", name := "carried", desc := "(I)I" } : Jvm.MethodName)) ∈ lw_all := lw_g (lw_at lw_m11 54 rfl) rfl
theorem q2503 : (Jvm.Cond.selects "TrunkYardsModel" ({ cls := "TrunkYardsModel", name := "carried", desc := "(I)I" } : Jvm.MethodName) ({ cls := "TrunkYardsModel", name := "carried", desc := "(I)I" } : Jvm.MethodName)) ∈ lw_all := lw_g (lw_at lw_m11 55 rfl) rfl
theorem q2504 : (Jvm.Cond.code ({ cls := "TrunkYardsModel", name := "carried", desc := "(I)I" } : Jvm.MethodName) prog_19_method_19_code (2 : Nat) (Option.some Jvm.ClassFile.FieldType.int)) ∈ lw_all := lw_g (lw_at lw_m11 56 rfl) rfl
theorem q2506 : (Jvm.Cond.instanceMethod ({ cls := "TrunkYardsModel", name := "promised", desc := "(I)I" } : Jvm.MethodName)) ∈ lw_all := lw_g (lw_at lw_m11 58 rfl) rfl
theorem q2507 : (Jvm.Cond.selects "TrunkYardsModel" ({ cls := "TrunkYardsModel", name := "promised", desc := "(I)I" } : Jvm.MethodName) ({ cls := "TrunkYardsModel", name := "promised", desc := "(I)I" } : Jvm.MethodName)) ∈ lw_all := lw_g (lw_at lw_m11 59 rfl) rfl
theorem q2508 : (Jvm.Cond.code ({ cls := "TrunkYardsModel", name := "promised", desc := "(I)I" } : Jvm.MethodName) prog_19_method_21_code (2 : Nat) (Option.some Jvm.ClassFile.FieldType.int)) ∈ lw_all := lw_g (lw_at lw_m11 60 rfl) rfl
theorem q2509 : (Jvm.Cond.methodLink "TrunkYardsModel" (116 : Nat) ({ cls := "TrunkYardsModel", name := "isPromised", desc := "(I)Z" } : Jvm.MethodName)) ∈ lw_all := lw_g (lw_at lw_m11 61 rfl) rfl
theorem q2510 : (Jvm.Cond.privateMethod ({ cls := "TrunkYardsModel", name := "isPromised", desc := "(I)Z" } : Jvm.MethodName)) ∈ lw_tbl := lw_at lw_m11 62 rfl
theorem q2511 : (Jvm.Cond.instanceMethod ({ cls := "TrunkYardsModel", name := "isPromised", desc := "(I)Z" } : Jvm.MethodName)) ∈ lw_all := lw_g (lw_at lw_m11 63 rfl) rfl
theorem q2512 : (Jvm.Cond.code ({ cls := "TrunkYardsModel", name := "isPromised", desc := "(I)Z" } : Jvm.MethodName) prog_19_method_20_code (2 : Nat) (Option.some Jvm.ClassFile.FieldType.boolean)) ∈ lw_all := lw_g (lw_at lw_m11 64 rfl) rfl
theorem q2514 : (Jvm.Cond.instanceMethod ({ cls := "TrunkYardsModel", name := "call", desc := "(II)I" } : Jvm.MethodName)) ∈ lw_all := lw_g (lw_at lw_m11 66 rfl) rfl
theorem q2515 : (Jvm.Cond.selects "TrunkYardsModel" ({ cls := "TrunkYardsModel", name := "call", desc := "(II)I" } : Jvm.MethodName) ({ cls := "TrunkYardsModel", name := "call", desc := "(II)I" } : Jvm.MethodName)) ∈ lw_all := lw_g (lw_at lw_m11 67 rfl) rfl
theorem q2516 : (Jvm.Cond.code ({ cls := "TrunkYardsModel", name := "call", desc := "(II)I" } : Jvm.MethodName) prog_19_method_29_code (3 : Nat) (Option.some Jvm.ClassFile.FieldType.int)) ∈ lw_all := lw_g (lw_at lw_m11 68 rfl) rfl
theorem q2517 : (Jvm.Cond.methodLink "TrunkYardsModel" (132 : Nat) ({ cls := "TrunkYardsModel", name := "callNow", desc := "(I)I" } : Jvm.MethodName)) ∈ lw_all := lw_g (lw_at lw_m11 69 rfl) rfl
theorem q2518 : (Jvm.Cond.privateMethod ({ cls := "TrunkYardsModel", name := "callNow", desc := "(I)I" } : Jvm.MethodName)) ∈ lw_tbl := lw_at lw_m11 70 rfl
theorem q2519 : (Jvm.Cond.instanceMethod ({ cls := "TrunkYardsModel", name := "callNow", desc := "(I)I" } : Jvm.MethodName)) ∈ lw_all := lw_g (lw_at lw_m11 71 rfl) rfl
theorem q2520 : (Jvm.Cond.code ({ cls := "TrunkYardsModel", name := "callNow", desc := "(I)I" } : Jvm.MethodName) prog_19_method_24_code (4 : Nat) (Option.some Jvm.ClassFile.FieldType.int)) ∈ lw_all := lw_g (lw_at lw_m11 72 rfl) rfl
theorem q2521 : (Jvm.Cond.methodLink "TrunkYardsModel" (136 : Nat) ({ cls := "TrunkYardsModel", name := "callsTo", desc := "(I)I" } : Jvm.MethodName)) ∈ lw_all := lw_g (lw_at lw_m11 73 rfl) rfl
theorem q2522 : (Jvm.Cond.privateMethod ({ cls := "TrunkYardsModel", name := "callsTo", desc := "(I)I" } : Jvm.MethodName)) ∈ lw_tbl := lw_at lw_m11 74 rfl
theorem q2523 : (Jvm.Cond.instanceMethod ({ cls := "TrunkYardsModel", name := "callsTo", desc := "(I)I" } : Jvm.MethodName)) ∈ lw_all := lw_g (lw_at lw_m11 75 rfl) rfl
theorem q2524 : (Jvm.Cond.code ({ cls := "TrunkYardsModel", name := "callsTo", desc := "(I)I" } : Jvm.MethodName) prog_19_method_25_code (4 : Nat) (Option.some Jvm.ClassFile.FieldType.int)) ∈ lw_all := lw_g (lw_at lw_m11 76 rfl) rfl
theorem q2525 : (Jvm.Cond.methodLink "TrunkYardsModel" (139 : Nat) ({ cls := "TrunkYardsModel", name := "takesWay", desc := "(II)Z" } : Jvm.MethodName)) ∈ lw_all := lw_g (lw_at lw_m11 77 rfl) rfl
theorem q2526 : (Jvm.Cond.privateMethod ({ cls := "TrunkYardsModel", name := "takesWay", desc := "(II)Z" } : Jvm.MethodName)) ∈ lw_tbl := lw_at lw_m11 78 rfl
theorem q2527 : (Jvm.Cond.instanceMethod ({ cls := "TrunkYardsModel", name := "takesWay", desc := "(II)Z" } : Jvm.MethodName)) ∈ lw_all := lw_g (lw_at lw_m11 79 rfl) rfl
theorem q2528 : (Jvm.Cond.code ({ cls := "TrunkYardsModel", name := "takesWay", desc := "(II)Z" } : Jvm.MethodName) prog_19_method_28_code (7 : Nat) (Option.some Jvm.ClassFile.FieldType.boolean)) ∈ lw_all := lw_g (lw_at lw_m11 80 rfl) rfl
theorem q2529 : (Jvm.Cond.methodLink "TrunkYardsModel" (129 : Nat) ({ cls := "TrunkYardsModel", name := "freeBetween", desc := "(II)I" } : Jvm.MethodName)) ∈ lw_all := lw_g (lw_at lw_m11 81 rfl) rfl
theorem q2530 : (Jvm.Cond.privateMethod ({ cls := "TrunkYardsModel", name := "freeBetween", desc := "(II)I" } : Jvm.MethodName)) ∈ lw_tbl := lw_at lw_m11 82 rfl
theorem q2531 : (Jvm.Cond.instanceMethod ({ cls := "TrunkYardsModel", name := "freeBetween", desc := "(II)I" } : Jvm.MethodName)) ∈ lw_all := lw_g (lw_at lw_m11 83 rfl) rfl
theorem q2532 : (Jvm.Cond.code ({ cls := "TrunkYardsModel", name := "freeBetween", desc := "(II)I" } : Jvm.MethodName) prog_19_method_27_code (4 : Nat) (Option.some Jvm.ClassFile.FieldType.int)) ∈ lw_all := lw_g (lw_at lw_m11 84 rfl) rfl
theorem q2533 : (Jvm.Cond.methodLink "TrunkYardsModel" (125 : Nat) ({ cls := "TrunkYardsModel", name := "between", desc := "(II)I" } : Jvm.MethodName)) ∈ lw_all := lw_g (lw_at lw_m11 85 rfl) rfl
theorem q2534 : (Jvm.Cond.static ({ cls := "TrunkYardsModel", name := "between", desc := "(II)I" } : Jvm.MethodName)) ∈ lw_all := lw_g (lw_at lw_m11 86 rfl) rfl
theorem q2535 : (Jvm.Cond.code ({ cls := "TrunkYardsModel", name := "between", desc := "(II)I" } : Jvm.MethodName) prog_19_method_26_code (2 : Nat) (Option.some Jvm.ClassFile.FieldType.int)) ∈ lw_all := lw_g (lw_at lw_m11 87 rfl) rfl
theorem q2537 : (Jvm.Cond.instanceMethod ({ cls := "TrunkYardsModel", name := "ask", desc := "(II)I" } : Jvm.MethodName)) ∈ lw_all := lw_g (lw_at lw_m11 89 rfl) rfl
theorem q2538 : (Jvm.Cond.selects "TrunkYardsModel" ({ cls := "TrunkYardsModel", name := "ask", desc := "(II)I" } : Jvm.MethodName) ({ cls := "TrunkYardsModel", name := "ask", desc := "(II)I" } : Jvm.MethodName)) ∈ lw_all := lw_g (lw_at lw_m11 90 rfl) rfl
theorem q2539 : (Jvm.Cond.code ({ cls := "TrunkYardsModel", name := "ask", desc := "(II)I" } : Jvm.MethodName) prog_19_method_33_code (4 : Nat) (Option.some Jvm.ClassFile.FieldType.int)) ∈ lw_all := lw_g (lw_at lw_m11 91 rfl) rfl
theorem q2540 : (Jvm.Cond.methodLink "TrunkYardsModel" (148 : Nat) ({ cls := "TrunkYardsModel", name := "isCall", desc := "(I)Z" } : Jvm.MethodName)) ∈ lw_all := lw_g (lw_at lw_m11 92 rfl) rfl
theorem q2541 : (Jvm.Cond.privateMethod ({ cls := "TrunkYardsModel", name := "isCall", desc := "(I)Z" } : Jvm.MethodName)) ∈ lw_tbl := lw_at lw_m11 93 rfl
theorem q2542 : (Jvm.Cond.instanceMethod ({ cls := "TrunkYardsModel", name := "isCall", desc := "(I)Z" } : Jvm.MethodName)) ∈ lw_all := lw_g (lw_at lw_m11 94 rfl) rfl
theorem q2543 : (Jvm.Cond.code ({ cls := "TrunkYardsModel", name := "isCall", desc := "(I)Z" } : Jvm.MethodName) prog_19_method_22_code (2 : Nat) (Option.some Jvm.ClassFile.FieldType.boolean)) ∈ lw_all := lw_g (lw_at lw_m11 95 rfl) rfl
theorem q2544 : (Jvm.Cond.methodLink "TrunkYardsModel" (151 : Nat) ({ cls := "TrunkYardsModel", name := "finds", desc := "(II)I" } : Jvm.MethodName)) ∈ lw_all := lw_g (lw_at lw_m11 96 rfl) rfl
theorem q2545 : (Jvm.Cond.privateMethod ({ cls := "TrunkYardsModel", name := "finds", desc := "(II)I" } : Jvm.MethodName)) ∈ lw_tbl := lw_at lw_m11 97 rfl
theorem q2546 : (Jvm.Cond.instanceMethod ({ cls := "TrunkYardsModel", name := "finds", desc := "(II)I" } : Jvm.MethodName)) ∈ lw_all := lw_g (lw_at lw_m11 98 rfl) rfl
theorem q2547 : (Jvm.Cond.code ({ cls := "TrunkYardsModel", name := "finds", desc := "(II)I" } : Jvm.MethodName) prog_19_method_31_code (10 : Nat) (Option.some Jvm.ClassFile.FieldType.int)) ∈ lw_all := lw_g (lw_at lw_m11 99 rfl) rfl
theorem q2548 : (Jvm.Cond.methodLink "TrunkYardsModel" (145 : Nat) ({ cls := "TrunkYardsModel", name := "fits", desc := "(II)Z" } : Jvm.MethodName)) ∈ lw_all := lw_g (lw_at lw_m11 100 rfl) rfl
theorem q2549 : (Jvm.Cond.privateMethod ({ cls := "TrunkYardsModel", name := "fits", desc := "(II)Z" } : Jvm.MethodName)) ∈ lw_tbl := lw_at lw_m11 101 rfl
theorem q2550 : (Jvm.Cond.instanceMethod ({ cls := "TrunkYardsModel", name := "fits", desc := "(II)Z" } : Jvm.MethodName)) ∈ lw_all := lw_g (lw_at lw_m11 102 rfl) rfl
theorem q2551 : (Jvm.Cond.code ({ cls := "TrunkYardsModel", name := "fits", desc := "(II)Z" } : Jvm.MethodName) prog_19_method_30_code (3 : Nat) (Option.some Jvm.ClassFile.FieldType.boolean)) ∈ lw_all := lw_g (lw_at lw_m11 103 rfl) rfl
theorem q2552 : (Jvm.Cond.methodLink "TrunkYardsModel" (154 : Nat) ({ cls := "TrunkYardsModel", name := "adds", desc := "(II)V" } : Jvm.MethodName)) ∈ lw_all := lw_g (lw_at lw_m11 104 rfl) rfl
theorem q2553 : (Jvm.Cond.privateMethod ({ cls := "TrunkYardsModel", name := "adds", desc := "(II)V" } : Jvm.MethodName)) ∈ lw_tbl := lw_at lw_m11 105 rfl
theorem q2554 : (Jvm.Cond.instanceMethod ({ cls := "TrunkYardsModel", name := "adds", desc := "(II)V" } : Jvm.MethodName)) ∈ lw_all := lw_g (lw_at lw_m11 106 rfl) rfl
theorem q2555 : (Jvm.Cond.code ({ cls := "TrunkYardsModel", name := "adds", desc := "(II)V" } : Jvm.MethodName) prog_19_method_32_code (3 : Nat) (Option.none : Option Jvm.ClassFile.FieldType)) ∈ lw_all := lw_g (lw_at lw_m11 107 rfl) rfl
theorem q2557 : (Jvm.Cond.instanceMethod ({ cls := "TrunkYardsModel", name := "confirm", desc := "(I)I" } : Jvm.MethodName)) ∈ lw_all := lw_g (lw_at lw_m11 109 rfl) rfl
theorem q2558 : (Jvm.Cond.selects "TrunkYardsModel" ({ cls := "TrunkYardsModel", name := "confirm", desc := "(I)I" } : Jvm.MethodName) ({ cls := "TrunkYardsModel", name := "confirm", desc := "(I)I" } : Jvm.MethodName)) ∈ lw_all := lw_g (lw_at lw_m11 110 rfl) rfl
theorem q2559 : (Jvm.Cond.code ({ cls := "TrunkYardsModel", name := "confirm", desc := "(I)I" } : Jvm.MethodName) prog_19_method_34_code (3 : Nat) (Option.some Jvm.ClassFile.FieldType.int)) ∈ lw_all := lw_g (lw_at lw_m11 111 rfl) rfl
theorem q2561 : (Jvm.Cond.instanceMethod ({ cls := "TrunkYardsModel", name := "resume", desc := "(II)I" } : Jvm.MethodName)) ∈ lw_all := lw_g (lw_at lw_m11 113 rfl) rfl
theorem q2562 : (Jvm.Cond.selects "TrunkYardsModel" ({ cls := "TrunkYardsModel", name := "resume", desc := "(II)I" } : Jvm.MethodName) ({ cls := "TrunkYardsModel", name := "resume", desc := "(II)I" } : Jvm.MethodName)) ∈ lw_all := lw_g (lw_at lw_m11 114 rfl) rfl
theorem q2563 : (Jvm.Cond.code ({ cls := "TrunkYardsModel", name := "resume", desc := "(II)I" } : Jvm.MethodName) prog_19_method_36_code (3 : Nat) (Option.some Jvm.ClassFile.FieldType.int)) ∈ lw_all := lw_g (lw_at lw_m11 115 rfl) rfl
theorem q2564 : (Jvm.Cond.methodLink "TrunkYardsModel" (158 : Nat) ({ cls := "TrunkYardsModel", name := "isBooking", desc := "(I)Z" } : Jvm.MethodName)) ∈ lw_all := lw_g (lw_at lw_m11 116 rfl) rfl
theorem q2565 : (Jvm.Cond.privateMethod ({ cls := "TrunkYardsModel", name := "isBooking", desc := "(I)Z" } : Jvm.MethodName)) ∈ lw_tbl := lw_at lw_m11 117 rfl
theorem q2566 : (Jvm.Cond.instanceMethod ({ cls := "TrunkYardsModel", name := "isBooking", desc := "(I)Z" } : Jvm.MethodName)) ∈ lw_all := lw_g (lw_at lw_m11 118 rfl) rfl
theorem q2567 : (Jvm.Cond.code ({ cls := "TrunkYardsModel", name := "isBooking", desc := "(I)Z" } : Jvm.MethodName) prog_19_method_23_code (2 : Nat) (Option.some Jvm.ClassFile.FieldType.boolean)) ∈ lw_all := lw_g (lw_at lw_m11 119 rfl) rfl
theorem q2568 : (Jvm.Cond.methodLink "TrunkYardsModel" (161 : Nat) ({ cls := "TrunkYardsModel", name := "isOf", desc := "(II)Z" } : Jvm.MethodName)) ∈ lw_all := lw_g (lw_at lw_m11 120 rfl) rfl
theorem q2569 : (Jvm.Cond.privateMethod ({ cls := "TrunkYardsModel", name := "isOf", desc := "(II)Z" } : Jvm.MethodName)) ∈ lw_tbl := lw_at lw_m11 121 rfl
theorem q2570 : (Jvm.Cond.instanceMethod ({ cls := "TrunkYardsModel", name := "isOf", desc := "(II)Z" } : Jvm.MethodName)) ∈ lw_all := lw_g (lw_at lw_m11 122 rfl) rfl
theorem q2571 : (Jvm.Cond.code ({ cls := "TrunkYardsModel", name := "isOf", desc := "(II)Z" } : Jvm.MethodName) prog_19_method_35_code (3 : Nat) (Option.some Jvm.ClassFile.FieldType.boolean)) ∈ lw_all := lw_g (lw_at lw_m11 123 rfl) rfl
theorem q2573 : (Jvm.Cond.instanceMethod ({ cls := "TrunkYardsModel", name := "cancel", desc := "(II)I" } : Jvm.MethodName)) ∈ lw_all := lw_g (lw_at lw_m11 125 rfl) rfl
theorem q2574 : (Jvm.Cond.selects "TrunkYardsModel" ({ cls := "TrunkYardsModel", name := "cancel", desc := "(II)I" } : Jvm.MethodName) ({ cls := "TrunkYardsModel", name := "cancel", desc := "(II)I" } : Jvm.MethodName)) ∈ lw_all := lw_g (lw_at lw_m11 126 rfl) rfl
theorem q2575 : (Jvm.Cond.code ({ cls := "TrunkYardsModel", name := "cancel", desc := "(II)I" } : Jvm.MethodName) prog_19_method_37_code (3 : Nat) (Option.some Jvm.ClassFile.FieldType.int)) ∈ lw_all := lw_g (lw_at lw_m11 127 rfl) rfl
theorem q2577 : (Jvm.Cond.instanceMethod ({ cls := "TrunkYardsModel", name := "hangUp", desc := "(I)I" } : Jvm.MethodName)) ∈ lw_all := lw_g (lw_at lw_m11 129 rfl) rfl
theorem q2578 : (Jvm.Cond.selects "TrunkYardsModel" ({ cls := "TrunkYardsModel", name := "hangUp", desc := "(I)I" } : Jvm.MethodName) ({ cls := "TrunkYardsModel", name := "hangUp", desc := "(I)I" } : Jvm.MethodName)) ∈ lw_all := lw_g (lw_at lw_m11 130 rfl) rfl
theorem q2579 : (Jvm.Cond.code ({ cls := "TrunkYardsModel", name := "hangUp", desc := "(I)I" } : Jvm.MethodName) prog_19_method_39_code (3 : Nat) (Option.some Jvm.ClassFile.FieldType.int)) ∈ lw_all := lw_g (lw_at lw_m11 131 rfl) rfl
theorem q2580 : (Jvm.Cond.methodLink "TrunkYardsModel" (164 : Nat) ({ cls := "TrunkYardsModel", name := "ends", desc := "(I)V" } : Jvm.MethodName)) ∈ lw_all := lw_g (lw_at lw_m11 132 rfl) rfl
theorem q2581 : (Jvm.Cond.privateMethod ({ cls := "TrunkYardsModel", name := "ends", desc := "(I)V" } : Jvm.MethodName)) ∈ lw_tbl := lw_at lw_m11 133 rfl
theorem q2582 : (Jvm.Cond.instanceMethod ({ cls := "TrunkYardsModel", name := "ends", desc := "(I)V" } : Jvm.MethodName)) ∈ lw_all := lw_g (lw_at lw_m11 134 rfl) rfl
theorem q2583 : (Jvm.Cond.code ({ cls := "TrunkYardsModel", name := "ends", desc := "(I)V" } : Jvm.MethodName) prog_19_method_38_code (3 : Nat) (Option.none : Option Jvm.ClassFile.FieldType)) ∈ lw_all := lw_g (lw_at lw_m11 135 rfl) rfl
theorem q2585 : (Jvm.Cond.instanceMethod ({ cls := "TrunkYardsModel", name := "callOf", desc := "(I)I" } : Jvm.MethodName)) ∈ lw_all := lw_g (lw_at lw_m11 137 rfl) rfl
theorem q2586 : (Jvm.Cond.selects "TrunkYardsModel" ({ cls := "TrunkYardsModel", name := "callOf", desc := "(I)I" } : Jvm.MethodName) ({ cls := "TrunkYardsModel", name := "callOf", desc := "(I)I" } : Jvm.MethodName)) ∈ lw_all := lw_g (lw_at lw_m11 138 rfl) rfl
theorem q2587 : (Jvm.Cond.code ({ cls := "TrunkYardsModel", name := "callOf", desc := "(I)I" } : Jvm.MethodName) prog_19_method_40_code (2 : Nat) (Option.some Jvm.ClassFile.FieldType.int)) ∈ lw_all := lw_g (lw_at lw_m11 139 rfl) rfl
theorem q2589 : (Jvm.Cond.instanceMethod ({ cls := "TrunkYardsModel", name := "way", desc := "(I)I" } : Jvm.MethodName)) ∈ lw_all := lw_g (lw_at lw_m11 141 rfl) rfl
theorem q2590 : (Jvm.Cond.selects "TrunkYardsModel" ({ cls := "TrunkYardsModel", name := "way", desc := "(I)I" } : Jvm.MethodName) ({ cls := "TrunkYardsModel", name := "way", desc := "(I)I" } : Jvm.MethodName)) ∈ lw_all := lw_g (lw_at lw_m11 142 rfl) rfl
theorem q2591 : (Jvm.Cond.code ({ cls := "TrunkYardsModel", name := "way", desc := "(I)I" } : Jvm.MethodName) prog_19_method_41_code (4 : Nat) (Option.some Jvm.ClassFile.FieldType.int)) ∈ lw_all := lw_g (lw_at lw_m11 143 rfl) rfl
theorem q2593 : (Jvm.Cond.instanceMethod ({ cls := "TrunkYardsModel", name := "busy", desc := "()I" } : Jvm.MethodName)) ∈ lw_all := lw_g (lw_at lw_m11 145 rfl) rfl
theorem q2594 : (Jvm.Cond.selects "TrunkYardsModel" ({ cls := "TrunkYardsModel", name := "busy", desc := "()I" } : Jvm.MethodName) ({ cls := "TrunkYardsModel", name := "busy", desc := "()I" } : Jvm.MethodName)) ∈ lw_all := lw_g (lw_at lw_m11 146 rfl) rfl
theorem q2595 : (Jvm.Cond.code ({ cls := "TrunkYardsModel", name := "busy", desc := "()I" } : Jvm.MethodName) prog_19_method_42_code (1 : Nat) (Option.some Jvm.ClassFile.FieldType.int)) ∈ lw_all := lw_g (lw_at lw_m11 147 rfl) rfl
theorem q2597 : (Jvm.Cond.instanceMethod ({ cls := "TrunkYardsModel", name := "cut", desc := "(III)I" } : Jvm.MethodName)) ∈ lw_all := lw_g (lw_at lw_m11 149 rfl) rfl
theorem q2598 : (Jvm.Cond.selects "TrunkYardsModel" ({ cls := "TrunkYardsModel", name := "cut", desc := "(III)I" } : Jvm.MethodName) ({ cls := "TrunkYardsModel", name := "cut", desc := "(III)I" } : Jvm.MethodName)) ∈ lw_all := lw_g (lw_at lw_m11 150 rfl) rfl
theorem q2599 : (Jvm.Cond.code ({ cls := "TrunkYardsModel", name := "cut", desc := "(III)I" } : Jvm.MethodName) prog_19_method_44_code (5 : Nat) (Option.some Jvm.ClassFile.FieldType.int)) ∈ lw_all := lw_g (lw_at lw_m11 151 rfl) rfl
theorem q2600 : (Jvm.Cond.methodLink "TrunkYardsModel" (168 : Nat) ({ cls := "TrunkYardsModel", name := "isTrunk", desc := "(III)Z" } : Jvm.MethodName)) ∈ lw_all := lw_g (lw_at lw_m11 152 rfl) rfl
theorem q2601 : (Jvm.Cond.static ({ cls := "TrunkYardsModel", name := "isTrunk", desc := "(III)Z" } : Jvm.MethodName)) ∈ lw_all := lw_g (lw_at lw_m11 153 rfl) rfl
theorem q2602 : (Jvm.Cond.code ({ cls := "TrunkYardsModel", name := "isTrunk", desc := "(III)Z" } : Jvm.MethodName) prog_19_method_43_code (3 : Nat) (Option.some Jvm.ClassFile.FieldType.boolean)) ∈ lw_all := lw_g (lw_at lw_m11 154 rfl) rfl
theorem q2604 : (Jvm.Cond.instanceMethod ({ cls := "TrunkYardsModel", name := "mend", desc := "(III)V" } : Jvm.MethodName)) ∈ lw_all := lw_g (lw_at lw_m11 156 rfl) rfl
theorem q2605 : (Jvm.Cond.selects "TrunkYardsModel" ({ cls := "TrunkYardsModel", name := "mend", desc := "(III)V" } : Jvm.MethodName) ({ cls := "TrunkYardsModel", name := "mend", desc := "(III)V" } : Jvm.MethodName)) ∈ lw_all := lw_g (lw_at lw_m11 157 rfl) rfl
theorem q2606 : (Jvm.Cond.code ({ cls := "TrunkYardsModel", name := "mend", desc := "(III)V" } : Jvm.MethodName) prog_19_method_45_code (4 : Nat) (Option.none : Option Jvm.ClassFile.FieldType)) ∈ lw_all := lw_g (lw_at lw_m11 158 rfl) rfl
theorem q2608 : (Jvm.Cond.instanceMethod ({ cls := "TrunkYardsModel", name := "trunk", desc := "(III)I" } : Jvm.MethodName)) ∈ lw_all := lw_g (lw_at lw_m11 160 rfl) rfl
theorem q2609 : (Jvm.Cond.selects "TrunkYardsModel" ({ cls := "TrunkYardsModel", name := "trunk", desc := "(III)I" } : Jvm.MethodName) ({ cls := "TrunkYardsModel", name := "trunk", desc := "(III)I" } : Jvm.MethodName)) ∈ lw_all := lw_g (lw_at lw_m11 161 rfl) rfl
theorem q2610 : (Jvm.Cond.code ({ cls := "TrunkYardsModel", name := "trunk", desc := "(III)I" } : Jvm.MethodName) prog_19_method_46_code (4 : Nat) (Option.some Jvm.ClassFile.FieldType.int)) ∈ lw_all := lw_g (lw_at lw_m11 162 rfl) rfl
theorem q2612 : (Jvm.Cond.instanceMethod ({ cls := "TrunkYardsModel", name := "setLines", desc := "(II)I" } : Jvm.MethodName)) ∈ lw_all := lw_g (lw_at lw_m11 164 rfl) rfl
theorem q2613 : (Jvm.Cond.selects "TrunkYardsModel" ({ cls := "TrunkYardsModel", name := "setLines", desc := "(II)I" } : Jvm.MethodName) ({ cls := "TrunkYardsModel", name := "setLines", desc := "(II)I" } : Jvm.MethodName)) ∈ lw_all := lw_g (lw_at lw_m11 165 rfl) rfl
theorem q2614 : (Jvm.Cond.code ({ cls := "TrunkYardsModel", name := "setLines", desc := "(II)I" } : Jvm.MethodName) prog_19_method_47_code (4 : Nat) (Option.some Jvm.ClassFile.FieldType.int)) ∈ lw_all := lw_g (lw_at lw_m11 166 rfl) rfl
theorem q2616 : (Jvm.Cond.instanceMethod ({ cls := "TrunkYardsModel", name := "pass", desc := "(I)I" } : Jvm.MethodName)) ∈ lw_all := lw_g (lw_at lw_m11 168 rfl) rfl
theorem q2617 : (Jvm.Cond.selects "TrunkYardsModel" ({ cls := "TrunkYardsModel", name := "pass", desc := "(I)I" } : Jvm.MethodName) ({ cls := "TrunkYardsModel", name := "pass", desc := "(I)I" } : Jvm.MethodName)) ∈ lw_all := lw_g (lw_at lw_m11 169 rfl) rfl
theorem q2618 : (Jvm.Cond.code ({ cls := "TrunkYardsModel", name := "pass", desc := "(I)I" } : Jvm.MethodName) prog_19_method_48_code (4 : Nat) (Option.some Jvm.ClassFile.FieldType.int)) ∈ lw_all := lw_g (lw_at lw_m11 170 rfl) rfl
theorem q2620 : (Jvm.Cond.instanceMethod ({ cls := "TrunkYardsModel", name := "bookings", desc := "()I" } : Jvm.MethodName)) ∈ lw_all := lw_g (lw_at lw_m11 172 rfl) rfl
theorem q2621 : (Jvm.Cond.selects "TrunkYardsModel" ({ cls := "TrunkYardsModel", name := "bookings", desc := "()I" } : Jvm.MethodName) ({ cls := "TrunkYardsModel", name := "bookings", desc := "()I" } : Jvm.MethodName)) ∈ lw_all := lw_g (lw_at lw_m11 173 rfl) rfl
theorem q2622 : (Jvm.Cond.code ({ cls := "TrunkYardsModel", name := "bookings", desc := "()I" } : Jvm.MethodName) prog_19_method_49_code (1 : Nat) (Option.some Jvm.ClassFile.FieldType.int)) ∈ lw_all := lw_g (lw_at lw_m11 174 rfl) rfl
theorem q2624 : (Jvm.Cond.instanceMethod ({ cls := "TrunkYardsModel", name := "state", desc := "(I)I" } : Jvm.MethodName)) ∈ lw_all := lw_g (lw_at lw_m11 176 rfl) rfl
theorem q2625 : (Jvm.Cond.selects "TrunkYardsModel" ({ cls := "TrunkYardsModel", name := "state", desc := "(I)I" } : Jvm.MethodName) ({ cls := "TrunkYardsModel", name := "state", desc := "(I)I" } : Jvm.MethodName)) ∈ lw_all := lw_g (lw_at lw_m11 177 rfl) rfl
theorem q2626 : (Jvm.Cond.code ({ cls := "TrunkYardsModel", name := "state", desc := "(I)I" } : Jvm.MethodName) prog_19_method_51_code (2 : Nat) (Option.some Jvm.ClassFile.FieldType.int)) ∈ lw_all := lw_g (lw_at lw_m11 178 rfl) rfl
theorem q2627 : (Jvm.Cond.methodLink "TrunkYardsModel" (174 : Nat) ({ cls := "TrunkYardsModel", name := "asksBooking", desc := "(I)Z" } : Jvm.MethodName)) ∈ lw_all := lw_g (lw_at lw_m11 179 rfl) rfl
theorem q2628 : (Jvm.Cond.privateMethod ({ cls := "TrunkYardsModel", name := "asksBooking", desc := "(I)Z" } : Jvm.MethodName)) ∈ lw_tbl := lw_at lw_m11 180 rfl
theorem q2629 : (Jvm.Cond.instanceMethod ({ cls := "TrunkYardsModel", name := "asksBooking", desc := "(I)Z" } : Jvm.MethodName)) ∈ lw_all := lw_g (lw_at lw_m11 181 rfl) rfl
theorem q2630 : (Jvm.Cond.code ({ cls := "TrunkYardsModel", name := "asksBooking", desc := "(I)Z" } : Jvm.MethodName) prog_19_method_50_code (2 : Nat) (Option.some Jvm.ClassFile.FieldType.boolean)) ∈ lw_all := lw_g (lw_at lw_m11 182 rfl) rfl
theorem q2632 : (Jvm.Cond.instanceMethod ({ cls := "TrunkYardsModel", name := "wagons", desc := "(I)I" } : Jvm.MethodName)) ∈ lw_all := lw_g (lw_at lw_m11 184 rfl) rfl
theorem q2633 : (Jvm.Cond.selects "TrunkYardsModel" ({ cls := "TrunkYardsModel", name := "wagons", desc := "(I)I" } : Jvm.MethodName) ({ cls := "TrunkYardsModel", name := "wagons", desc := "(I)I" } : Jvm.MethodName)) ∈ lw_all := lw_g (lw_at lw_m11 185 rfl) rfl
theorem q2634 : (Jvm.Cond.code ({ cls := "TrunkYardsModel", name := "wagons", desc := "(I)I" } : Jvm.MethodName) prog_19_method_52_code (2 : Nat) (Option.some Jvm.ClassFile.FieldType.int)) ∈ lw_all := lw_g (lw_at lw_m11 186 rfl) rfl
theorem q2636 : (Jvm.Cond.instanceMethod ({ cls := "TrunkYardsModel", name := "wagonOf", desc := "(II)I" } : Jvm.MethodName)) ∈ lw_all := lw_g (lw_at lw_m11 188 rfl) rfl
theorem q2637 : (Jvm.Cond.selects "TrunkYardsModel" ({ cls := "TrunkYardsModel", name := "wagonOf", desc := "(II)I" } : Jvm.MethodName) ({ cls := "TrunkYardsModel", name := "wagonOf", desc := "(II)I" } : Jvm.MethodName)) ∈ lw_all := lw_g (lw_at lw_m11 189 rfl) rfl
theorem q2638 : (Jvm.Cond.code ({ cls := "TrunkYardsModel", name := "wagonOf", desc := "(II)I" } : Jvm.MethodName) prog_19_method_53_code (3 : Nat) (Option.some Jvm.ClassFile.FieldType.int)) ∈ lw_all := lw_g (lw_at lw_m11 190 rfl) rfl
theorem q2640 : (Jvm.Cond.instanceMethod ({ cls := "TrunkYardsModel", name := "lapses", desc := "(I)I" } : Jvm.MethodName)) ∈ lw_all := lw_g (lw_at lw_m11 192 rfl) rfl
theorem q2641 : (Jvm.Cond.selects "TrunkYardsModel" ({ cls := "TrunkYardsModel", name := "lapses", desc := "(I)I" } : Jvm.MethodName) ({ cls := "TrunkYardsModel", name := "lapses", desc := "(I)I" } : Jvm.MethodName)) ∈ lw_all := lw_g (lw_at lw_m11 193 rfl) rfl
theorem q2642 : (Jvm.Cond.code ({ cls := "TrunkYardsModel", name := "lapses", desc := "(I)I" } : Jvm.MethodName) prog_19_method_54_code (2 : Nat) (Option.some Jvm.ClassFile.FieldType.int)) ∈ lw_all := lw_g (lw_at lw_m11 194 rfl) rfl
theorem q2644 : (Jvm.Cond.instanceMethod ({ cls := "TrunkYardsModel", name := "depart", desc := "(III)I" } : Jvm.MethodName)) ∈ lw_all := lw_g (lw_at lw_m11 196 rfl) rfl
theorem q2645 : (Jvm.Cond.selects "TrunkYardsModel" ({ cls := "TrunkYardsModel", name := "depart", desc := "(III)I" } : Jvm.MethodName) ({ cls := "TrunkYardsModel", name := "depart", desc := "(III)I" } : Jvm.MethodName)) ∈ lw_all := lw_g (lw_at lw_m11 197 rfl) rfl
theorem q2646 : (Jvm.Cond.code ({ cls := "TrunkYardsModel", name := "depart", desc := "(III)I" } : Jvm.MethodName) prog_19_method_57_code (7 : Nat) (Option.some Jvm.ClassFile.FieldType.int)) ∈ lw_all := lw_g (lw_at lw_m11 198 rfl) rfl
theorem q2647 : (Jvm.Cond.methodLink "TrunkYardsModel" (180 : Nat) ({ cls := "TrunkYardsModel", name := "canDepart", desc := "(II)Z" } : Jvm.MethodName)) ∈ lw_all := lw_g (lw_at lw_m11 199 rfl) rfl
theorem q2648 : (Jvm.Cond.privateMethod ({ cls := "TrunkYardsModel", name := "canDepart", desc := "(II)Z" } : Jvm.MethodName)) ∈ lw_tbl := lw_at lw_m11 200 rfl
theorem q2649 : (Jvm.Cond.instanceMethod ({ cls := "TrunkYardsModel", name := "canDepart", desc := "(II)Z" } : Jvm.MethodName)) ∈ lw_all := lw_g (lw_at lw_m11 201 rfl) rfl
theorem q2650 : (Jvm.Cond.code ({ cls := "TrunkYardsModel", name := "canDepart", desc := "(II)Z" } : Jvm.MethodName) prog_19_method_56_code (7 : Nat) (Option.some Jvm.ClassFile.FieldType.boolean)) ∈ lw_all := lw_g (lw_at lw_m11 202 rfl) rfl
theorem q2651 : (Jvm.Cond.methodLink "TrunkYardsModel" (177 : Nat) ({ cls := "TrunkYardsModel", name := "areOn", desc := "(II)Z" } : Jvm.MethodName)) ∈ lw_all := lw_g (lw_at lw_m11 203 rfl) rfl
theorem q2652 : (Jvm.Cond.privateMethod ({ cls := "TrunkYardsModel", name := "areOn", desc := "(II)Z" } : Jvm.MethodName)) ∈ lw_tbl := lw_at lw_m11 204 rfl
theorem q2653 : (Jvm.Cond.instanceMethod ({ cls := "TrunkYardsModel", name := "areOn", desc := "(II)Z" } : Jvm.MethodName)) ∈ lw_all := lw_g (lw_at lw_m11 205 rfl) rfl
theorem q2654 : (Jvm.Cond.code ({ cls := "TrunkYardsModel", name := "areOn", desc := "(II)Z" } : Jvm.MethodName) prog_19_method_55_code (5 : Nat) (Option.some Jvm.ClassFile.FieldType.boolean)) ∈ lw_all := lw_g (lw_at lw_m11 206 rfl) rfl
theorem q2656 : (Jvm.Cond.instanceMethod ({ cls := "TrunkYardsModel", name := "arrive", desc := "(II)I" } : Jvm.MethodName)) ∈ lw_all := lw_g (lw_at lw_m11 208 rfl) rfl
theorem q2657 : (Jvm.Cond.selects "TrunkYardsModel" ({ cls := "TrunkYardsModel", name := "arrive", desc := "(II)I" } : Jvm.MethodName) ({ cls := "TrunkYardsModel", name := "arrive", desc := "(II)I" } : Jvm.MethodName)) ∈ lw_all := lw_g (lw_at lw_m11 209 rfl) rfl
theorem q2658 : (Jvm.Cond.code ({ cls := "TrunkYardsModel", name := "arrive", desc := "(II)I" } : Jvm.MethodName) prog_19_method_58_code (5 : Nat) (Option.some Jvm.ClassFile.FieldType.int)) ∈ lw_all := lw_g (lw_at lw_m11 210 rfl) rfl
theorem q2660 : (Jvm.Cond.instanceMethod ({ cls := "TrunkYardsModel", name := "trains", desc := "()I" } : Jvm.MethodName)) ∈ lw_all := lw_g (lw_at lw_m11 212 rfl) rfl
theorem q2661 : (Jvm.Cond.selects "TrunkYardsModel" ({ cls := "TrunkYardsModel", name := "trains", desc := "()I" } : Jvm.MethodName) ({ cls := "TrunkYardsModel", name := "trains", desc := "()I" } : Jvm.MethodName)) ∈ lw_all := lw_g (lw_at lw_m11 213 rfl) rfl
theorem q2662 : (Jvm.Cond.code ({ cls := "TrunkYardsModel", name := "trains", desc := "()I" } : Jvm.MethodName) prog_19_method_59_code (1 : Nat) (Option.some Jvm.ClassFile.FieldType.int)) ∈ lw_all := lw_g (lw_at lw_m11 214 rfl) rfl
theorem q2701 : (Jvm.Cond.castable "TrunkYardsModel" "java/lang/Object") ∈ lw_tbl := lw_at lw_m12 13 rfl
theorem in_X4 : ∀ w ∈ wsX40, w ∈ lw_all := lw_in wsX40 [2376, 2378, 2380, 2382, 2384, 2386, 2388, 2390, 2392, 2394, 2396, 2398, 2400, 2402, 2404, 2406, 2408, 2410, 2412, 2414, 2416, 2418, 2420, 2422, 2424, 2426, 2428, 2430, 2432, 2434] (by decide +kernel) (by decide +kernel)

def tbX4_init (pc : Nat) : Option (Instr × Nat) := (cond (Nat.ble pc 94) (cond (Nat.ble pc 58) (cond (Nat.ble pc 29) (cond (Nat.ble pc 13) (cond (Nat.ble pc 5) (cond (Nat.ble pc 1) (cond (Nat.ble pc 0) (cond (Nat.beq pc 0) (some (.aload_n 0, 1)) none) (cond (Nat.beq pc 1) (some (.invokespecial 1, 3)) none)) (cond (Nat.ble pc 4) (cond (Nat.beq pc 4) (some (.aload_n 0, 1)) none) (cond (Nat.beq pc 5) (some (.bipush 30, 2)) none))) (cond (Nat.ble pc 9) (cond (Nat.ble pc 7) (cond (Nat.beq pc 7) (some (.newarray .int, 2)) none) (cond (Nat.beq pc 9) (some (.putfield 7, 3)) none)) (cond (Nat.ble pc 12) (cond (Nat.beq pc 12) (some (.aload_n 0, 1)) none) (cond (Nat.beq pc 13) (some (.bipush 30, 2)) none)))) (cond (Nat.ble pc 21) (cond (Nat.ble pc 17) (cond (Nat.ble pc 15) (cond (Nat.beq pc 15) (some (.newarray .int, 2)) none) (cond (Nat.beq pc 17) (some (.putfield 13, 3)) none)) (cond (Nat.ble pc 20) (cond (Nat.beq pc 20) (some (.aload_n 0, 1)) none) (cond (Nat.beq pc 21) (some (.bipush 30, 2)) none))) (cond (Nat.ble pc 25) (cond (Nat.ble pc 23) (cond (Nat.beq pc 23) (some (.newarray .int, 2)) none) (cond (Nat.beq pc 25) (some (.putfield 16, 3)) none)) (cond (Nat.ble pc 28) (cond (Nat.beq pc 28) (some (.aload_n 0, 1)) none) (cond (Nat.beq pc 29) (some (.bipush 15, 2)) none))))) (cond (Nat.ble pc 45) (cond (Nat.ble pc 37) (cond (Nat.ble pc 33) (cond (Nat.ble pc 31) (cond (Nat.beq pc 31) (some (.newarray .int, 2)) none) (cond (Nat.beq pc 33) (some (.putfield 19, 3)) none)) (cond (Nat.ble pc 36) (cond (Nat.beq pc 36) (some (.aload_n 0, 1)) none) (cond (Nat.beq pc 37) (some (.bipush 90, 2)) none))) (cond (Nat.ble pc 41) (cond (Nat.ble pc 39) (cond (Nat.beq pc 39) (some (.newarray .int, 2)) none) (cond (Nat.beq pc 41) (some (.putfield 22, 3)) none)) (cond (Nat.ble pc 44) (cond (Nat.beq pc 44) (some (.aload_n 0, 1)) none) (cond (Nat.beq pc 45) (some (.iconst 4, 1)) none)))) (cond (Nat.ble pc 52) (cond (Nat.ble pc 48) (cond (Nat.ble pc 46) (cond (Nat.beq pc 46) (some (.newarray .int, 2)) none) (cond (Nat.beq pc 48) (some (.putfield 25, 3)) none)) (cond (Nat.ble pc 51) (cond (Nat.beq pc 51) (some (.aload_n 0, 1)) none) (cond (Nat.beq pc 52) (some (.bipush 6, 2)) none))) (cond (Nat.ble pc 56) (cond (Nat.ble pc 54) (cond (Nat.beq pc 54) (some (.newarray .int, 2)) none) (cond (Nat.beq pc 56) (some (.dup, 1)) none)) (cond (Nat.ble pc 57) (cond (Nat.beq pc 57) (some (.iconst 0, 1)) none) (cond (Nat.beq pc 58) (some (.iconst (-1), 1)) none)))))) (cond (Nat.ble pc 74) (cond (Nat.ble pc 66) (cond (Nat.ble pc 62) (cond (Nat.ble pc 60) (cond (Nat.ble pc 59) (cond (Nat.beq pc 59) (some (.iastore, 1)) none) (cond (Nat.beq pc 60) (some (.dup, 1)) none)) (cond (Nat.ble pc 61) (cond (Nat.beq pc 61) (some (.iconst 1, 1)) none) (cond (Nat.beq pc 62) (some (.iconst (-1), 1)) none))) (cond (Nat.ble pc 64) (cond (Nat.ble pc 63) (cond (Nat.beq pc 63) (some (.iastore, 1)) none) (cond (Nat.beq pc 64) (some (.dup, 1)) none)) (cond (Nat.ble pc 65) (cond (Nat.beq pc 65) (some (.iconst 2, 1)) none) (cond (Nat.beq pc 66) (some (.iconst (-1), 1)) none)))) (cond (Nat.ble pc 70) (cond (Nat.ble pc 68) (cond (Nat.ble pc 67) (cond (Nat.beq pc 67) (some (.iastore, 1)) none) (cond (Nat.beq pc 68) (some (.dup, 1)) none)) (cond (Nat.ble pc 69) (cond (Nat.beq pc 69) (some (.iconst 3, 1)) none) (cond (Nat.beq pc 70) (some (.iconst (-1), 1)) none))) (cond (Nat.ble pc 72) (cond (Nat.ble pc 71) (cond (Nat.beq pc 71) (some (.iastore, 1)) none) (cond (Nat.beq pc 72) (some (.dup, 1)) none)) (cond (Nat.ble pc 73) (cond (Nat.beq pc 73) (some (.iconst 4, 1)) none) (cond (Nat.beq pc 74) (some (.iconst (-1), 1)) none))))) (cond (Nat.ble pc 84) (cond (Nat.ble pc 78) (cond (Nat.ble pc 76) (cond (Nat.ble pc 75) (cond (Nat.beq pc 75) (some (.iastore, 1)) none) (cond (Nat.beq pc 76) (some (.dup, 1)) none)) (cond (Nat.ble pc 77) (cond (Nat.beq pc 77) (some (.iconst 5, 1)) none) (cond (Nat.beq pc 78) (some (.iconst (-1), 1)) none))) (cond (Nat.ble pc 80) (cond (Nat.ble pc 79) (cond (Nat.beq pc 79) (some (.iastore, 1)) none) (cond (Nat.beq pc 80) (some (.putfield 28, 3)) none)) (cond (Nat.ble pc 83) (cond (Nat.beq pc 83) (some (.aload_n 0, 1)) none) (cond (Nat.beq pc 84) (some (.iconst 3, 1)) none)))) (cond (Nat.ble pc 89) (cond (Nat.ble pc 87) (cond (Nat.ble pc 85) (cond (Nat.beq pc 85) (some (.newarray .int, 2)) none) (cond (Nat.beq pc 87) (some (.dup, 1)) none)) (cond (Nat.ble pc 88) (cond (Nat.beq pc 88) (some (.iconst 0, 1)) none) (cond (Nat.beq pc 89) (some (.iconst 1, 1)) none))) (cond (Nat.ble pc 91) (cond (Nat.ble pc 90) (cond (Nat.beq pc 90) (some (.iastore, 1)) none) (cond (Nat.beq pc 91) (some (.dup, 1)) none)) (cond (Nat.ble pc 92) (cond (Nat.beq pc 92) (some (.iconst 1, 1)) none) (cond (Nat.ble pc 93) (cond (Nat.beq pc 93) (some (.iconst 1, 1)) none) (cond (Nat.beq pc 94) (some (.iastore, 1)) none)))))))) (cond (Nat.ble pc 155) (cond (Nat.ble pc 121) (cond (Nat.ble pc 105) (cond (Nat.ble pc 98) (cond (Nat.ble pc 96) (cond (Nat.ble pc 95) (cond (Nat.beq pc 95) (some (.dup, 1)) none) (cond (Nat.beq pc 96) (some (.iconst 2, 1)) none)) (cond (Nat.ble pc 97) (cond (Nat.beq pc 97) (some (.iconst 1, 1)) none) (cond (Nat.beq pc 98) (some (.iastore, 1)) none))) (cond (Nat.ble pc 102) (cond (Nat.ble pc 99) (cond (Nat.beq pc 99) (some (.putfield 31, 3)) none) (cond (Nat.beq pc 102) (some (.aload_n 0, 1)) none)) (cond (Nat.ble pc 103) (cond (Nat.beq pc 103) (some (.bipush 60, 2)) none) (cond (Nat.beq pc 105) (some (.newarray .int, 2)) none)))) (cond (Nat.ble pc 113) (cond (Nat.ble pc 110) (cond (Nat.ble pc 107) (cond (Nat.beq pc 107) (some (.putfield 34, 3)) none) (cond (Nat.beq pc 110) (some (.aload_n 0, 1)) none)) (cond (Nat.ble pc 111) (cond (Nat.beq pc 111) (some (.bipush 60, 2)) none) (cond (Nat.beq pc 113) (some (.newarray .int, 2)) none))) (cond (Nat.ble pc 118) (cond (Nat.ble pc 115) (cond (Nat.beq pc 115) (some (.putfield 37, 3)) none) (cond (Nat.beq pc 118) (some (.aload_n 0, 1)) none)) (cond (Nat.ble pc 119) (cond (Nat.beq pc 119) (some (.bipush 60, 2)) none) (cond (Nat.beq pc 121) (some (.newarray .boolean, 2)) none))))) (cond (Nat.ble pc 137) (cond (Nat.ble pc 129) (cond (Nat.ble pc 126) (cond (Nat.ble pc 123) (cond (Nat.beq pc 123) (some (.putfield 40, 3)) none) (cond (Nat.beq pc 126) (some (.aload_n 0, 1)) none)) (cond (Nat.ble pc 127) (cond (Nat.beq pc 127) (some (.bipush 60, 2)) none) (cond (Nat.beq pc 129) (some (.newarray .int, 2)) none))) (cond (Nat.ble pc 134) (cond (Nat.ble pc 131) (cond (Nat.beq pc 131) (some (.putfield 44, 3)) none) (cond (Nat.beq pc 134) (some (.aload_n 0, 1)) none)) (cond (Nat.ble pc 135) (cond (Nat.beq pc 135) (some (.bipush 40, 2)) none) (cond (Nat.beq pc 137) (some (.newarray .int, 2)) none)))) (cond (Nat.ble pc 145) (cond (Nat.ble pc 142) (cond (Nat.ble pc 139) (cond (Nat.beq pc 139) (some (.putfield 47, 3)) none) (cond (Nat.beq pc 142) (some (.aload_n 0, 1)) none)) (cond (Nat.ble pc 143) (cond (Nat.beq pc 143) (some (.bipush 40, 2)) none) (cond (Nat.beq pc 145) (some (.newarray .int, 2)) none))) (cond (Nat.ble pc 150) (cond (Nat.ble pc 147) (cond (Nat.beq pc 147) (some (.putfield 50, 3)) none) (cond (Nat.beq pc 150) (some (.aload_n 0, 1)) none)) (cond (Nat.ble pc 151) (cond (Nat.beq pc 151) (some (.bipush 40, 2)) none) (cond (Nat.ble pc 153) (cond (Nat.beq pc 153) (some (.newarray .int, 2)) none) (cond (Nat.beq pc 155) (some (.putfield 53, 3)) none))))))) (cond (Nat.ble pc 188) (cond (Nat.ble pc 171) (cond (Nat.ble pc 163) (cond (Nat.ble pc 159) (cond (Nat.ble pc 158) (cond (Nat.beq pc 158) (some (.aload_n 0, 1)) none) (cond (Nat.beq pc 159) (some (.bipush 40, 2)) none)) (cond (Nat.ble pc 161) (cond (Nat.beq pc 161) (some (.newarray .int, 2)) none) (cond (Nat.beq pc 163) (some (.putfield 56, 3)) none))) (cond (Nat.ble pc 167) (cond (Nat.ble pc 166) (cond (Nat.beq pc 166) (some (.aload_n 0, 1)) none) (cond (Nat.beq pc 167) (some (.bipush 40, 2)) none)) (cond (Nat.ble pc 169) (cond (Nat.beq pc 169) (some (.newarray .int, 2)) none) (cond (Nat.beq pc 171) (some (.putfield 59, 3)) none)))) (cond (Nat.ble pc 179) (cond (Nat.ble pc 175) (cond (Nat.ble pc 174) (cond (Nat.beq pc 174) (some (.aload_n 0, 1)) none) (cond (Nat.beq pc 175) (some (.bipush 40, 2)) none)) (cond (Nat.ble pc 177) (cond (Nat.beq pc 177) (some (.newarray .int, 2)) none) (cond (Nat.beq pc 179) (some (.putfield 62, 3)) none))) (cond (Nat.ble pc 183) (cond (Nat.ble pc 182) (cond (Nat.beq pc 182) (some (.aload_n 0, 1)) none) (cond (Nat.beq pc 183) (some (.sipush 1200, 3)) none)) (cond (Nat.ble pc 186) (cond (Nat.beq pc 186) (some (.newarray .int, 2)) none) (cond (Nat.beq pc 188) (some (.putfield 65, 3)) none))))) (cond (Nat.ble pc 204) (cond (Nat.ble pc 196) (cond (Nat.ble pc 192) (cond (Nat.ble pc 191) (cond (Nat.beq pc 191) (some (.aload_n 0, 1)) none) (cond (Nat.beq pc 192) (some (.bipush 40, 2)) none)) (cond (Nat.ble pc 194) (cond (Nat.beq pc 194) (some (.newarray .int, 2)) none) (cond (Nat.beq pc 196) (some (.putfield 68, 3)) none))) (cond (Nat.ble pc 200) (cond (Nat.ble pc 199) (cond (Nat.beq pc 199) (some (.aload_n 0, 1)) none) (cond (Nat.beq pc 200) (some (.bipush 40, 2)) none)) (cond (Nat.ble pc 202) (cond (Nat.beq pc 202) (some (.newarray .boolean, 2)) none) (cond (Nat.beq pc 204) (some (.putfield 71, 3)) none)))) (cond (Nat.ble pc 212) (cond (Nat.ble pc 208) (cond (Nat.ble pc 207) (cond (Nat.beq pc 207) (some (.aload_n 0, 1)) none) (cond (Nat.beq pc 208) (some (.bipush 40, 2)) none)) (cond (Nat.ble pc 210) (cond (Nat.beq pc 210) (some (.newarray .int, 2)) none) (cond (Nat.beq pc 212) (some (.putfield 74, 3)) none))) (cond (Nat.ble pc 216) (cond (Nat.ble pc 215) (cond (Nat.beq pc 215) (some (.aload_n 0, 1)) none) (cond (Nat.beq pc 216) (some (.sipush 240, 3)) none)) (cond (Nat.ble pc 219) (cond (Nat.beq pc 219) (some (.newarray .int, 2)) none) (cond (Nat.ble pc 221) (cond (Nat.beq pc 221) (some (.putfield 77, 3)) none) (cond (Nat.beq pc 224) (some (.return_, 1)) none)))))))))
theorem tkX4_init : tkAll cX4_init tbX4_init := fun pc => (tk_b (tk_b (tk_b (tk_b (tk_b (tk_b (tk_b (tk_l dX4_init_0) (tk_l dX4_init_1)) (tk_b (tk_l dX4_init_4) (tk_l dX4_init_5))) (tk_b (tk_b (tk_l dX4_init_7) (tk_l dX4_init_9)) (tk_b (tk_l dX4_init_12) (tk_l dX4_init_13)))) (tk_b (tk_b (tk_b (tk_l dX4_init_15) (tk_l dX4_init_17)) (tk_b (tk_l dX4_init_20) (tk_l dX4_init_21))) (tk_b (tk_b (tk_l dX4_init_23) (tk_l dX4_init_25)) (tk_b (tk_l dX4_init_28) (tk_l dX4_init_29))))) (tk_b (tk_b (tk_b (tk_b (tk_l dX4_init_31) (tk_l dX4_init_33)) (tk_b (tk_l dX4_init_36) (tk_l dX4_init_37))) (tk_b (tk_b (tk_l dX4_init_39) (tk_l dX4_init_41)) (tk_b (tk_l dX4_init_44) (tk_l dX4_init_45)))) (tk_b (tk_b (tk_b (tk_l dX4_init_46) (tk_l dX4_init_48)) (tk_b (tk_l dX4_init_51) (tk_l dX4_init_52))) (tk_b (tk_b (tk_l dX4_init_54) (tk_l dX4_init_56)) (tk_b (tk_l dX4_init_57) (tk_l dX4_init_58)))))) (tk_b (tk_b (tk_b (tk_b (tk_b (tk_l dX4_init_59) (tk_l dX4_init_60)) (tk_b (tk_l dX4_init_61) (tk_l dX4_init_62))) (tk_b (tk_b (tk_l dX4_init_63) (tk_l dX4_init_64)) (tk_b (tk_l dX4_init_65) (tk_l dX4_init_66)))) (tk_b (tk_b (tk_b (tk_l dX4_init_67) (tk_l dX4_init_68)) (tk_b (tk_l dX4_init_69) (tk_l dX4_init_70))) (tk_b (tk_b (tk_l dX4_init_71) (tk_l dX4_init_72)) (tk_b (tk_l dX4_init_73) (tk_l dX4_init_74))))) (tk_b (tk_b (tk_b (tk_b (tk_l dX4_init_75) (tk_l dX4_init_76)) (tk_b (tk_l dX4_init_77) (tk_l dX4_init_78))) (tk_b (tk_b (tk_l dX4_init_79) (tk_l dX4_init_80)) (tk_b (tk_l dX4_init_83) (tk_l dX4_init_84)))) (tk_b (tk_b (tk_b (tk_l dX4_init_85) (tk_l dX4_init_87)) (tk_b (tk_l dX4_init_88) (tk_l dX4_init_89))) (tk_b (tk_b (tk_l dX4_init_90) (tk_l dX4_init_91)) (tk_b (tk_l dX4_init_92) (tk_b (tk_l dX4_init_93) (tk_l dX4_init_94)))))))) (tk_b (tk_b (tk_b (tk_b (tk_b (tk_b (tk_l dX4_init_95) (tk_l dX4_init_96)) (tk_b (tk_l dX4_init_97) (tk_l dX4_init_98))) (tk_b (tk_b (tk_l dX4_init_99) (tk_l dX4_init_102)) (tk_b (tk_l dX4_init_103) (tk_l dX4_init_105)))) (tk_b (tk_b (tk_b (tk_l dX4_init_107) (tk_l dX4_init_110)) (tk_b (tk_l dX4_init_111) (tk_l dX4_init_113))) (tk_b (tk_b (tk_l dX4_init_115) (tk_l dX4_init_118)) (tk_b (tk_l dX4_init_119) (tk_l dX4_init_121))))) (tk_b (tk_b (tk_b (tk_b (tk_l dX4_init_123) (tk_l dX4_init_126)) (tk_b (tk_l dX4_init_127) (tk_l dX4_init_129))) (tk_b (tk_b (tk_l dX4_init_131) (tk_l dX4_init_134)) (tk_b (tk_l dX4_init_135) (tk_l dX4_init_137)))) (tk_b (tk_b (tk_b (tk_l dX4_init_139) (tk_l dX4_init_142)) (tk_b (tk_l dX4_init_143) (tk_l dX4_init_145))) (tk_b (tk_b (tk_l dX4_init_147) (tk_l dX4_init_150)) (tk_b (tk_l dX4_init_151) (tk_b (tk_l dX4_init_153) (tk_l dX4_init_155))))))) (tk_b (tk_b (tk_b (tk_b (tk_b (tk_l dX4_init_158) (tk_l dX4_init_159)) (tk_b (tk_l dX4_init_161) (tk_l dX4_init_163))) (tk_b (tk_b (tk_l dX4_init_166) (tk_l dX4_init_167)) (tk_b (tk_l dX4_init_169) (tk_l dX4_init_171)))) (tk_b (tk_b (tk_b (tk_l dX4_init_174) (tk_l dX4_init_175)) (tk_b (tk_l dX4_init_177) (tk_l dX4_init_179))) (tk_b (tk_b (tk_l dX4_init_182) (tk_l dX4_init_183)) (tk_b (tk_l dX4_init_186) (tk_l dX4_init_188))))) (tk_b (tk_b (tk_b (tk_b (tk_l dX4_init_191) (tk_l dX4_init_192)) (tk_b (tk_l dX4_init_194) (tk_l dX4_init_196))) (tk_b (tk_b (tk_l dX4_init_199) (tk_l dX4_init_200)) (tk_b (tk_l dX4_init_202) (tk_l dX4_init_204)))) (tk_b (tk_b (tk_b (tk_l dX4_init_207) (tk_l dX4_init_208)) (tk_b (tk_l dX4_init_210) (tk_l dX4_init_212))) (tk_b (tk_b (tk_l dX4_init_215) (tk_l dX4_init_216)) (tk_b (tk_l dX4_init_219) (tk_b (tk_l dX4_init_221) (tk_l dX4_init_224)))))))))
def tbX4_thrown (pc : Nat) : Option (Instr × Nat) := (cond (Nat.ble pc 0) (cond (Nat.beq pc 0) (some (.aload_n 0, 1)) none) (cond (Nat.ble pc 1) (cond (Nat.beq pc 1) (some (.getfield 80, 3)) none) (cond (Nat.beq pc 4) (some (.ireturn, 1)) none)))
theorem tkX4_thrown : tkAll cX4_thrown tbX4_thrown := fun pc => (tk_b (tk_l dX4_thrown_0) (tk_b (tk_l dX4_thrown_1) (tk_l dX4_thrown_4)))
def tbX4_wagon (pc : Nat) : Option (Instr × Nat) := (cond (Nat.ble pc 52) (cond (Nat.ble pc 26) (cond (Nat.ble pc 10) (cond (Nat.ble pc 2) (cond (Nat.ble pc 0) (cond (Nat.beq pc 0) (some (.aload_n 0, 1)) none) (cond (Nat.ble pc 1) (cond (Nat.beq pc 1) (some (.iload_n 1, 1)) none) (cond (Nat.beq pc 2) (some (.iload_n 2, 1)) none))) (cond (Nat.ble pc 6) (cond (Nat.ble pc 3) (cond (Nat.beq pc 3) (some (.invokestatic 95, 3)) none) (cond (Nat.beq pc 6) (some (.ifCond .ne 7, 3)) none)) (cond (Nat.ble pc 9) (cond (Nat.beq pc 9) (some (.iconst 1, 1)) none) (cond (Nat.beq pc 10) (some (.goto 32, 3)) none)))) (cond (Nat.ble pc 17) (cond (Nat.ble pc 13) (cond (Nat.beq pc 13) (some (.aload_n 0, 1)) none) (cond (Nat.ble pc 14) (cond (Nat.beq pc 14) (some (.getfield 92, 3)) none) (cond (Nat.beq pc 17) (some (.bipush 30, 2)) none))) (cond (Nat.ble pc 22) (cond (Nat.ble pc 19) (cond (Nat.beq pc 19) (some (.if_icmp .eq 18, 3)) none) (cond (Nat.beq pc 22) (some (.aload_n 0, 1)) none)) (cond (Nat.ble pc 23) (cond (Nat.beq pc 23) (some (.getfield 19, 3)) none) (cond (Nat.beq pc 26) (some (.iconst 5, 1)) none))))) (cond (Nat.ble pc 34) (cond (Nat.ble pc 29) (cond (Nat.ble pc 27) (cond (Nat.beq pc 27) (some (.iload_n 1, 1)) none) (cond (Nat.ble pc 28) (cond (Nat.beq pc 28) (some (.imul, 1)) none) (cond (Nat.beq pc 29) (some (.iload_n 2, 1)) none))) (cond (Nat.ble pc 31) (cond (Nat.ble pc 30) (cond (Nat.beq pc 30) (some (.iadd, 1)) none) (cond (Nat.beq pc 31) (some (.iaload, 1)) none)) (cond (Nat.ble pc 32) (cond (Nat.beq pc 32) (some (.bipush 6, 2)) none) (cond (Nat.beq pc 34) (some (.if_icmp .ne 7, 3)) none)))) (cond (Nat.ble pc 42) (cond (Nat.ble pc 38) (cond (Nat.ble pc 37) (cond (Nat.beq pc 37) (some (.iconst 2, 1)) none) (cond (Nat.beq pc 38) (some (.goto 4, 3)) none)) (cond (Nat.ble pc 41) (cond (Nat.beq pc 41) (some (.iconst 0, 1)) none) (cond (Nat.beq pc 42) (some (.putfield 80, 3)) none))) (cond (Nat.ble pc 46) (cond (Nat.ble pc 45) (cond (Nat.beq pc 45) (some (.aload_n 0, 1)) none) (cond (Nat.beq pc 46) (some (.getfield 80, 3)) none)) (cond (Nat.ble pc 49) (cond (Nat.beq pc 49) (some (.ifCond .le 5, 3)) none) (cond (Nat.beq pc 52) (some (.iconst 0, 1)) none)))))) (cond (Nat.ble pc 75) (cond (Nat.ble pc 63) (cond (Nat.ble pc 55) (cond (Nat.ble pc 53) (cond (Nat.beq pc 53) (some (.ireturn, 1)) none) (cond (Nat.ble pc 54) (cond (Nat.beq pc 54) (some (.aload_n 0, 1)) none) (cond (Nat.beq pc 55) (some (.getfield 13, 3)) none))) (cond (Nat.ble pc 59) (cond (Nat.ble pc 58) (cond (Nat.beq pc 58) (some (.aload_n 0, 1)) none) (cond (Nat.beq pc 59) (some (.getfield 92, 3)) none)) (cond (Nat.ble pc 62) (cond (Nat.beq pc 62) (some (.iconst (-1), 1)) none) (cond (Nat.beq pc 63) (some (.iastore, 1)) none)))) (cond (Nat.ble pc 69) (cond (Nat.ble pc 65) (cond (Nat.ble pc 64) (cond (Nat.beq pc 64) (some (.aload_n 0, 1)) none) (cond (Nat.beq pc 65) (some (.getfield 16, 3)) none)) (cond (Nat.ble pc 68) (cond (Nat.beq pc 68) (some (.aload_n 0, 1)) none) (cond (Nat.beq pc 69) (some (.getfield 92, 3)) none))) (cond (Nat.ble pc 73) (cond (Nat.ble pc 72) (cond (Nat.beq pc 72) (some (.iconst (-1), 1)) none) (cond (Nat.beq pc 73) (some (.iastore, 1)) none)) (cond (Nat.ble pc 74) (cond (Nat.beq pc 74) (some (.aload_n 0, 1)) none) (cond (Nat.beq pc 75) (some (.iload_n 1, 1)) none))))) (cond (Nat.ble pc 86) (cond (Nat.ble pc 78) (cond (Nat.ble pc 76) (cond (Nat.beq pc 76) (some (.iload_n 2, 1)) none) (cond (Nat.ble pc 77) (cond (Nat.beq pc 77) (some (.aload_n 0, 1)) none) (cond (Nat.beq pc 78) (some (.getfield 92, 3)) none))) (cond (Nat.ble pc 84) (cond (Nat.ble pc 81) (cond (Nat.beq pc 81) (some (.invokevirtual 99, 3)) none) (cond (Nat.beq pc 84) (some (.aload_n 0, 1)) none)) (cond (Nat.ble pc 85) (cond (Nat.beq pc 85) (some (.dup, 1)) none) (cond (Nat.beq pc 86) (some (.getfield 92, 3)) none)))) (cond (Nat.ble pc 94) (cond (Nat.ble pc 90) (cond (Nat.ble pc 89) (cond (Nat.beq pc 89) (some (.iconst 1, 1)) none) (cond (Nat.beq pc 90) (some (.iadd, 1)) none)) (cond (Nat.ble pc 91) (cond (Nat.beq pc 91) (some (.putfield 92, 3)) none) (cond (Nat.beq pc 94) (some (.aload_n 0, 1)) none))) (cond (Nat.ble pc 98) (cond (Nat.ble pc 95) (cond (Nat.beq pc 95) (some (.getfield 92, 3)) none) (cond (Nat.beq pc 98) (some (.iconst 1, 1)) none)) (cond (Nat.ble pc 99) (cond (Nat.beq pc 99) (some (.isub, 1)) none) (cond (Nat.beq pc 100) (some (.ireturn, 1)) none)))))))
theorem tkX4_wagon : tkAll cX4_wagon tbX4_wagon := fun pc => (tk_b (tk_b (tk_b (tk_b (tk_b (tk_l dX4_wagon_0) (tk_b (tk_l dX4_wagon_1) (tk_l dX4_wagon_2))) (tk_b (tk_b (tk_l dX4_wagon_3) (tk_l dX4_wagon_6)) (tk_b (tk_l dX4_wagon_9) (tk_l dX4_wagon_10)))) (tk_b (tk_b (tk_l dX4_wagon_13) (tk_b (tk_l dX4_wagon_14) (tk_l dX4_wagon_17))) (tk_b (tk_b (tk_l dX4_wagon_19) (tk_l dX4_wagon_22)) (tk_b (tk_l dX4_wagon_23) (tk_l dX4_wagon_26))))) (tk_b (tk_b (tk_b (tk_l dX4_wagon_27) (tk_b (tk_l dX4_wagon_28) (tk_l dX4_wagon_29))) (tk_b (tk_b (tk_l dX4_wagon_30) (tk_l dX4_wagon_31)) (tk_b (tk_l dX4_wagon_32) (tk_l dX4_wagon_34)))) (tk_b (tk_b (tk_b (tk_l dX4_wagon_37) (tk_l dX4_wagon_38)) (tk_b (tk_l dX4_wagon_41) (tk_l dX4_wagon_42))) (tk_b (tk_b (tk_l dX4_wagon_45) (tk_l dX4_wagon_46)) (tk_b (tk_l dX4_wagon_49) (tk_l dX4_wagon_52)))))) (tk_b (tk_b (tk_b (tk_b (tk_l dX4_wagon_53) (tk_b (tk_l dX4_wagon_54) (tk_l dX4_wagon_55))) (tk_b (tk_b (tk_l dX4_wagon_58) (tk_l dX4_wagon_59)) (tk_b (tk_l dX4_wagon_62) (tk_l dX4_wagon_63)))) (tk_b (tk_b (tk_b (tk_l dX4_wagon_64) (tk_l dX4_wagon_65)) (tk_b (tk_l dX4_wagon_68) (tk_l dX4_wagon_69))) (tk_b (tk_b (tk_l dX4_wagon_72) (tk_l dX4_wagon_73)) (tk_b (tk_l dX4_wagon_74) (tk_l dX4_wagon_75))))) (tk_b (tk_b (tk_b (tk_l dX4_wagon_76) (tk_b (tk_l dX4_wagon_77) (tk_l dX4_wagon_78))) (tk_b (tk_b (tk_l dX4_wagon_81) (tk_l dX4_wagon_84)) (tk_b (tk_l dX4_wagon_85) (tk_l dX4_wagon_86)))) (tk_b (tk_b (tk_b (tk_l dX4_wagon_89) (tk_l dX4_wagon_90)) (tk_b (tk_l dX4_wagon_91) (tk_l dX4_wagon_94))) (tk_b (tk_b (tk_l dX4_wagon_95) (tk_l dX4_wagon_98)) (tk_b (tk_l dX4_wagon_99) (tk_l dX4_wagon_100)))))))
def tbX4_isTrack (pc : Nat) : Option (Instr × Nat) := (cond (Nat.ble pc 9) (cond (Nat.ble pc 4) (cond (Nat.ble pc 0) (cond (Nat.beq pc 0) (some (.iload_n 0, 1)) none) (cond (Nat.ble pc 1) (cond (Nat.beq pc 1) (some (.invokestatic 88, 3)) none) (cond (Nat.beq pc 4) (some (.ifCond .eq 16, 3)) none))) (cond (Nat.ble pc 7) (cond (Nat.beq pc 7) (some (.iload_n 1, 1)) none) (cond (Nat.ble pc 8) (cond (Nat.beq pc 8) (some (.iconst 0, 1)) none) (cond (Nat.beq pc 9) (some (.iconst 4, 1)) none)))) (cond (Nat.ble pc 16) (cond (Nat.ble pc 10) (cond (Nat.beq pc 10) (some (.invokestatic 84, 3)) none) (cond (Nat.ble pc 13) (cond (Nat.beq pc 13) (some (.ifCond .eq 7, 3)) none) (cond (Nat.beq pc 16) (some (.iconst 1, 1)) none))) (cond (Nat.ble pc 17) (cond (Nat.beq pc 17) (some (.goto 4, 3)) none) (cond (Nat.ble pc 20) (cond (Nat.beq pc 20) (some (.iconst 0, 1)) none) (cond (Nat.beq pc 21) (some (.ireturn, 1)) none)))))
theorem tkX4_isTrack : tkAll cX4_isTrack tbX4_isTrack := fun pc => (tk_b (tk_b (tk_b (tk_l dX4_isTrack_0) (tk_b (tk_l dX4_isTrack_1) (tk_l dX4_isTrack_4))) (tk_b (tk_l dX4_isTrack_7) (tk_b (tk_l dX4_isTrack_8) (tk_l dX4_isTrack_9)))) (tk_b (tk_b (tk_l dX4_isTrack_10) (tk_b (tk_l dX4_isTrack_13) (tk_l dX4_isTrack_16))) (tk_b (tk_l dX4_isTrack_17) (tk_b (tk_l dX4_isTrack_20) (tk_l dX4_isTrack_21)))))
def tbX4_isYard (pc : Nat) : Option (Instr × Nat) := (cond (Nat.ble pc 1) (cond (Nat.ble pc 0) (cond (Nat.beq pc 0) (some (.iload_n 0, 1)) none) (cond (Nat.beq pc 1) (some (.iconst 0, 1)) none)) (cond (Nat.ble pc 2) (cond (Nat.beq pc 2) (some (.iconst 2, 1)) none) (cond (Nat.ble pc 3) (cond (Nat.beq pc 3) (some (.invokestatic 84, 3)) none) (cond (Nat.beq pc 6) (some (.ireturn, 1)) none))))
theorem tkX4_isYard : tkAll cX4_isYard tbX4_isYard := fun pc => (tk_b (tk_b (tk_l dX4_isYard_0) (tk_l dX4_isYard_1)) (tk_b (tk_l dX4_isYard_2) (tk_b (tk_l dX4_isYard_3) (tk_l dX4_isYard_6))))
def tbX4_in (pc : Nat) : Option (Instr × Nat) := (cond (Nat.ble pc 6) (cond (Nat.ble pc 1) (cond (Nat.ble pc 0) (cond (Nat.beq pc 0) (some (.iload_n 0, 1)) none) (cond (Nat.beq pc 1) (some (.iload_n 1, 1)) none)) (cond (Nat.ble pc 2) (cond (Nat.beq pc 2) (some (.if_icmp .lt 12, 3)) none) (cond (Nat.ble pc 5) (cond (Nat.beq pc 5) (some (.iload_n 0, 1)) none) (cond (Nat.beq pc 6) (some (.iload_n 2, 1)) none)))) (cond (Nat.ble pc 10) (cond (Nat.ble pc 7) (cond (Nat.beq pc 7) (some (.if_icmp .gt 7, 3)) none) (cond (Nat.beq pc 10) (some (.iconst 1, 1)) none)) (cond (Nat.ble pc 11) (cond (Nat.beq pc 11) (some (.goto 4, 3)) none) (cond (Nat.ble pc 14) (cond (Nat.beq pc 14) (some (.iconst 0, 1)) none) (cond (Nat.beq pc 15) (some (.ireturn, 1)) none)))))
theorem tkX4_in : tkAll cX4_in tbX4_in := fun pc => (tk_b (tk_b (tk_b (tk_l dX4_in_0) (tk_l dX4_in_1)) (tk_b (tk_l dX4_in_2) (tk_b (tk_l dX4_in_5) (tk_l dX4_in_6)))) (tk_b (tk_b (tk_l dX4_in_7) (tk_l dX4_in_10)) (tk_b (tk_l dX4_in_11) (tk_b (tk_l dX4_in_14) (tk_l dX4_in_15)))))
def tbX4_puts (pc : Nat) : Option (Instr × Nat) := (cond (Nat.ble pc 25) (cond (Nat.ble pc 11) (cond (Nat.ble pc 3) (cond (Nat.ble pc 1) (cond (Nat.ble pc 0) (cond (Nat.beq pc 0) (some (.iconst 5, 1)) none) (cond (Nat.beq pc 1) (some (.iload_n 1, 1)) none)) (cond (Nat.ble pc 2) (cond (Nat.beq pc 2) (some (.imul, 1)) none) (cond (Nat.beq pc 3) (some (.iload_n 2, 1)) none))) (cond (Nat.ble pc 5) (cond (Nat.ble pc 4) (cond (Nat.beq pc 4) (some (.iadd, 1)) none) (cond (Nat.beq pc 5) (some (.istore 4, 2)) none)) (cond (Nat.ble pc 7) (cond (Nat.beq pc 7) (some (.aload_n 0, 1)) none) (cond (Nat.ble pc 8) (cond (Nat.beq pc 8) (some (.getfield 22, 3)) none) (cond (Nat.beq pc 11) (some (.bipush 6, 2)) none))))) (cond (Nat.ble pc 17) (cond (Nat.ble pc 15) (cond (Nat.ble pc 13) (cond (Nat.beq pc 13) (some (.iload 4, 2)) none) (cond (Nat.beq pc 15) (some (.imul, 1)) none)) (cond (Nat.ble pc 16) (cond (Nat.beq pc 16) (some (.aload_n 0, 1)) none) (cond (Nat.beq pc 17) (some (.getfield 19, 3)) none))) (cond (Nat.ble pc 22) (cond (Nat.ble pc 20) (cond (Nat.beq pc 20) (some (.iload 4, 2)) none) (cond (Nat.beq pc 22) (some (.iaload, 1)) none)) (cond (Nat.ble pc 23) (cond (Nat.beq pc 23) (some (.iadd, 1)) none) (cond (Nat.ble pc 24) (cond (Nat.beq pc 24) (some (.iload_n 3, 1)) none) (cond (Nat.beq pc 25) (some (.iastore, 1)) none)))))) (cond (Nat.ble pc 37) (cond (Nat.ble pc 32) (cond (Nat.ble pc 27) (cond (Nat.ble pc 26) (cond (Nat.beq pc 26) (some (.aload_n 0, 1)) none) (cond (Nat.beq pc 27) (some (.getfield 19, 3)) none)) (cond (Nat.ble pc 30) (cond (Nat.beq pc 30) (some (.iload 4, 2)) none) (cond (Nat.beq pc 32) (some (.dup2, 1)) none))) (cond (Nat.ble pc 34) (cond (Nat.ble pc 33) (cond (Nat.beq pc 33) (some (.iaload, 1)) none) (cond (Nat.beq pc 34) (some (.iconst 1, 1)) none)) (cond (Nat.ble pc 35) (cond (Nat.beq pc 35) (some (.iadd, 1)) none) (cond (Nat.ble pc 36) (cond (Nat.beq pc 36) (some (.iastore, 1)) none) (cond (Nat.beq pc 37) (some (.aload_n 0, 1)) none))))) (cond (Nat.ble pc 44) (cond (Nat.ble pc 41) (cond (Nat.ble pc 38) (cond (Nat.beq pc 38) (some (.getfield 7, 3)) none) (cond (Nat.beq pc 41) (some (.iload_n 3, 1)) none)) (cond (Nat.ble pc 42) (cond (Nat.beq pc 42) (some (.bipush 10, 2)) none) (cond (Nat.beq pc 44) (some (.iload_n 1, 1)) none))) (cond (Nat.ble pc 46) (cond (Nat.ble pc 45) (cond (Nat.beq pc 45) (some (.imul, 1)) none) (cond (Nat.beq pc 46) (some (.iload_n 2, 1)) none)) (cond (Nat.ble pc 47) (cond (Nat.beq pc 47) (some (.iadd, 1)) none) (cond (Nat.ble pc 48) (cond (Nat.beq pc 48) (some (.iastore, 1)) none) (cond (Nat.beq pc 49) (some (.return_, 1)) none)))))))
theorem tkX4_puts : tkAll cX4_puts tbX4_puts := fun pc => (tk_b (tk_b (tk_b (tk_b (tk_b (tk_l dX4_puts_0) (tk_l dX4_puts_1)) (tk_b (tk_l dX4_puts_2) (tk_l dX4_puts_3))) (tk_b (tk_b (tk_l dX4_puts_4) (tk_l dX4_puts_5)) (tk_b (tk_l dX4_puts_7) (tk_b (tk_l dX4_puts_8) (tk_l dX4_puts_11))))) (tk_b (tk_b (tk_b (tk_l dX4_puts_13) (tk_l dX4_puts_15)) (tk_b (tk_l dX4_puts_16) (tk_l dX4_puts_17))) (tk_b (tk_b (tk_l dX4_puts_20) (tk_l dX4_puts_22)) (tk_b (tk_l dX4_puts_23) (tk_b (tk_l dX4_puts_24) (tk_l dX4_puts_25)))))) (tk_b (tk_b (tk_b (tk_b (tk_l dX4_puts_26) (tk_l dX4_puts_27)) (tk_b (tk_l dX4_puts_30) (tk_l dX4_puts_32))) (tk_b (tk_b (tk_l dX4_puts_33) (tk_l dX4_puts_34)) (tk_b (tk_l dX4_puts_35) (tk_b (tk_l dX4_puts_36) (tk_l dX4_puts_37))))) (tk_b (tk_b (tk_b (tk_l dX4_puts_38) (tk_l dX4_puts_41)) (tk_b (tk_l dX4_puts_42) (tk_l dX4_puts_44))) (tk_b (tk_b (tk_l dX4_puts_45) (tk_l dX4_puts_46)) (tk_b (tk_l dX4_puts_47) (tk_b (tk_l dX4_puts_48) (tk_l dX4_puts_49)))))))
def tbX4_shunt (pc : Nat) : Option (Instr × Nat) := (cond (Nat.ble pc 87) (cond (Nat.ble pc 46) (cond (Nat.ble pc 21) (cond (Nat.ble pc 9) (cond (Nat.ble pc 2) (cond (Nat.ble pc 0) (cond (Nat.beq pc 0) (some (.iload_n 1, 1)) none) (cond (Nat.ble pc 1) (cond (Nat.beq pc 1) (some (.iload_n 2, 1)) none) (cond (Nat.beq pc 2) (some (.invokestatic 95, 3)) none))) (cond (Nat.ble pc 5) (cond (Nat.beq pc 5) (some (.ifCond .eq 31, 3)) none) (cond (Nat.ble pc 8) (cond (Nat.beq pc 8) (some (.iload_n 1, 1)) none) (cond (Nat.beq pc 9) (some (.iload_n 3, 1)) none)))) (cond (Nat.ble pc 16) (cond (Nat.ble pc 10) (cond (Nat.beq pc 10) (some (.invokestatic 95, 3)) none) (cond (Nat.ble pc 13) (cond (Nat.beq pc 13) (some (.ifCond .eq 23, 3)) none) (cond (Nat.beq pc 16) (some (.iload_n 2, 1)) none))) (cond (Nat.ble pc 17) (cond (Nat.beq pc 17) (some (.iload_n 3, 1)) none) (cond (Nat.ble pc 18) (cond (Nat.beq pc 18) (some (.if_icmp .eq 18, 3)) none) (cond (Nat.beq pc 21) (some (.iload 4, 2)) none))))) (cond (Nat.ble pc 33) (cond (Nat.ble pc 26) (cond (Nat.ble pc 23) (cond (Nat.beq pc 23) (some (.iconst 1, 1)) none) (cond (Nat.ble pc 24) (cond (Nat.beq pc 24) (some (.bipush 6, 2)) none) (cond (Nat.beq pc 26) (some (.invokestatic 84, 3)) none))) (cond (Nat.ble pc 29) (cond (Nat.beq pc 29) (some (.ifCond .eq 7, 3)) none) (cond (Nat.ble pc 32) (cond (Nat.beq pc 32) (some (.iconst 1, 1)) none) (cond (Nat.beq pc 33) (some (.goto 4, 3)) none)))) (cond (Nat.ble pc 39) (cond (Nat.ble pc 36) (cond (Nat.beq pc 36) (some (.iconst 0, 1)) none) (cond (Nat.ble pc 37) (cond (Nat.beq pc 37) (some (.istore 5, 2)) none) (cond (Nat.beq pc 39) (some (.aload_n 0, 1)) none))) (cond (Nat.ble pc 42) (cond (Nat.ble pc 40) (cond (Nat.beq pc 40) (some (.iload 5, 2)) none) (cond (Nat.beq pc 42) (some (.ifCond .ne 7, 3)) none)) (cond (Nat.ble pc 45) (cond (Nat.beq pc 45) (some (.iconst 1, 1)) none) (cond (Nat.beq pc 46) (some (.goto 41, 3)) none)))))) (cond (Nat.ble pc 68) (cond (Nat.ble pc 56) (cond (Nat.ble pc 53) (cond (Nat.ble pc 49) (cond (Nat.beq pc 49) (some (.aload_n 0, 1)) none) (cond (Nat.ble pc 50) (cond (Nat.beq pc 50) (some (.getfield 19, 3)) none) (cond (Nat.beq pc 53) (some (.iconst 5, 1)) none))) (cond (Nat.ble pc 54) (cond (Nat.beq pc 54) (some (.iload_n 1, 1)) none) (cond (Nat.ble pc 55) (cond (Nat.beq pc 55) (some (.imul, 1)) none) (cond (Nat.beq pc 56) (some (.iload_n 2, 1)) none)))) (cond (Nat.ble pc 59) (cond (Nat.ble pc 57) (cond (Nat.beq pc 57) (some (.iadd, 1)) none) (cond (Nat.ble pc 58) (cond (Nat.beq pc 58) (some (.iaload, 1)) none) (cond (Nat.beq pc 59) (some (.iload 4, 2)) none))) (cond (Nat.ble pc 64) (cond (Nat.ble pc 61) (cond (Nat.beq pc 61) (some (.if_icmp .lt 21, 3)) none) (cond (Nat.beq pc 64) (some (.aload_n 0, 1)) none)) (cond (Nat.ble pc 65) (cond (Nat.beq pc 65) (some (.getfield 19, 3)) none) (cond (Nat.beq pc 68) (some (.iconst 5, 1)) none))))) (cond (Nat.ble pc 74) (cond (Nat.ble pc 71) (cond (Nat.ble pc 69) (cond (Nat.beq pc 69) (some (.iload_n 1, 1)) none) (cond (Nat.ble pc 70) (cond (Nat.beq pc 70) (some (.imul, 1)) none) (cond (Nat.beq pc 71) (some (.iload_n 3, 1)) none))) (cond (Nat.ble pc 72) (cond (Nat.beq pc 72) (some (.iadd, 1)) none) (cond (Nat.ble pc 73) (cond (Nat.beq pc 73) (some (.iaload, 1)) none) (cond (Nat.beq pc 74) (some (.iload 4, 2)) none)))) (cond (Nat.ble pc 79) (cond (Nat.ble pc 76) (cond (Nat.beq pc 76) (some (.iadd, 1)) none) (cond (Nat.ble pc 77) (cond (Nat.beq pc 77) (some (.bipush 6, 2)) none) (cond (Nat.beq pc 79) (some (.if_icmp .le 7, 3)) none))) (cond (Nat.ble pc 83) (cond (Nat.ble pc 82) (cond (Nat.beq pc 82) (some (.iconst 2, 1)) none) (cond (Nat.beq pc 83) (some (.goto 4, 3)) none)) (cond (Nat.ble pc 86) (cond (Nat.beq pc 86) (some (.iconst 0, 1)) none) (cond (Nat.beq pc 87) (some (.putfield 80, 3)) none))))))) (cond (Nat.ble pc 129) (cond (Nat.ble pc 107) (cond (Nat.ble pc 99) (cond (Nat.ble pc 94) (cond (Nat.ble pc 90) (cond (Nat.beq pc 90) (some (.aload_n 0, 1)) none) (cond (Nat.ble pc 91) (cond (Nat.beq pc 91) (some (.getfield 80, 3)) none) (cond (Nat.beq pc 94) (some (.ifCond .le 5, 3)) none))) (cond (Nat.ble pc 97) (cond (Nat.beq pc 97) (some (.iconst 0, 1)) none) (cond (Nat.ble pc 98) (cond (Nat.beq pc 98) (some (.ireturn, 1)) none) (cond (Nat.beq pc 99) (some (.iconst 5, 1)) none)))) (cond (Nat.ble pc 102) (cond (Nat.ble pc 100) (cond (Nat.beq pc 100) (some (.iload_n 1, 1)) none) (cond (Nat.ble pc 101) (cond (Nat.beq pc 101) (some (.imul, 1)) none) (cond (Nat.beq pc 102) (some (.iload_n 2, 1)) none))) (cond (Nat.ble pc 104) (cond (Nat.ble pc 103) (cond (Nat.beq pc 103) (some (.iadd, 1)) none) (cond (Nat.beq pc 104) (some (.istore 6, 2)) none)) (cond (Nat.ble pc 106) (cond (Nat.beq pc 106) (some (.aload_n 0, 1)) none) (cond (Nat.beq pc 107) (some (.getfield 19, 3)) none))))) (cond (Nat.ble pc 117) (cond (Nat.ble pc 113) (cond (Nat.ble pc 110) (cond (Nat.beq pc 110) (some (.iload 6, 2)) none) (cond (Nat.ble pc 112) (cond (Nat.beq pc 112) (some (.dup2, 1)) none) (cond (Nat.beq pc 113) (some (.iaload, 1)) none))) (cond (Nat.ble pc 114) (cond (Nat.beq pc 114) (some (.iload 4, 2)) none) (cond (Nat.ble pc 116) (cond (Nat.beq pc 116) (some (.isub, 1)) none) (cond (Nat.beq pc 117) (some (.iastore, 1)) none)))) (cond (Nat.ble pc 121) (cond (Nat.ble pc 118) (cond (Nat.beq pc 118) (some (.iconst 0, 1)) none) (cond (Nat.ble pc 119) (cond (Nat.beq pc 119) (some (.istore 7, 2)) none) (cond (Nat.beq pc 121) (some (.iload 7, 2)) none))) (cond (Nat.ble pc 125) (cond (Nat.ble pc 123) (cond (Nat.beq pc 123) (some (.iload 4, 2)) none) (cond (Nat.beq pc 125) (some (.if_icmp .ge 36, 3)) none)) (cond (Nat.ble pc 128) (cond (Nat.beq pc 128) (some (.aload_n 0, 1)) none) (cond (Nat.beq pc 129) (some (.iload_n 1, 1)) none)))))) (cond (Nat.ble pc 150) (cond (Nat.ble pc 139) (cond (Nat.ble pc 132) (cond (Nat.ble pc 130) (cond (Nat.beq pc 130) (some (.iload_n 3, 1)) none) (cond (Nat.ble pc 131) (cond (Nat.beq pc 131) (some (.aload_n 0, 1)) none) (cond (Nat.beq pc 132) (some (.getfield 22, 3)) none))) (cond (Nat.ble pc 135) (cond (Nat.beq pc 135) (some (.bipush 6, 2)) none) (cond (Nat.ble pc 137) (cond (Nat.beq pc 137) (some (.iload 6, 2)) none) (cond (Nat.beq pc 139) (some (.imul, 1)) none)))) (cond (Nat.ble pc 144) (cond (Nat.ble pc 140) (cond (Nat.beq pc 140) (some (.aload_n 0, 1)) none) (cond (Nat.ble pc 141) (cond (Nat.beq pc 141) (some (.getfield 19, 3)) none) (cond (Nat.beq pc 144) (some (.iload 6, 2)) none))) (cond (Nat.ble pc 147) (cond (Nat.ble pc 146) (cond (Nat.beq pc 146) (some (.iaload, 1)) none) (cond (Nat.beq pc 147) (some (.iadd, 1)) none)) (cond (Nat.ble pc 148) (cond (Nat.beq pc 148) (some (.iload 7, 2)) none) (cond (Nat.beq pc 150) (some (.iadd, 1)) none))))) (cond (Nat.ble pc 162) (cond (Nat.ble pc 155) (cond (Nat.ble pc 151) (cond (Nat.beq pc 151) (some (.iaload, 1)) none) (cond (Nat.ble pc 152) (cond (Nat.beq pc 152) (some (.invokevirtual 99, 3)) none) (cond (Nat.beq pc 155) (some (.iinc 7 1, 3)) none))) (cond (Nat.ble pc 158) (cond (Nat.beq pc 158) (some (.goto (-37), 3)) none) (cond (Nat.ble pc 161) (cond (Nat.beq pc 161) (some (.aload_n 0, 1)) none) (cond (Nat.beq pc 162) (some (.getfield 19, 3)) none)))) (cond (Nat.ble pc 167) (cond (Nat.ble pc 165) (cond (Nat.beq pc 165) (some (.iconst 5, 1)) none) (cond (Nat.ble pc 166) (cond (Nat.beq pc 166) (some (.iload_n 1, 1)) none) (cond (Nat.beq pc 167) (some (.imul, 1)) none))) (cond (Nat.ble pc 169) (cond (Nat.ble pc 168) (cond (Nat.beq pc 168) (some (.iload_n 3, 1)) none) (cond (Nat.beq pc 169) (some (.iadd, 1)) none)) (cond (Nat.ble pc 170) (cond (Nat.beq pc 170) (some (.iaload, 1)) none) (cond (Nat.beq pc 171) (some (.ireturn, 1)) none))))))))
theorem tkX4_shunt : tkAll cX4_shunt tbX4_shunt := fun pc => (tk_b (tk_b (tk_b (tk_b (tk_b (tk_b (tk_l dX4_shunt_0) (tk_b (tk_l dX4_shunt_1) (tk_l dX4_shunt_2))) (tk_b (tk_l dX4_shunt_5) (tk_b (tk_l dX4_shunt_8) (tk_l dX4_shunt_9)))) (tk_b (tk_b (tk_l dX4_shunt_10) (tk_b (tk_l dX4_shunt_13) (tk_l dX4_shunt_16))) (tk_b (tk_l dX4_shunt_17) (tk_b (tk_l dX4_shunt_18) (tk_l dX4_shunt_21))))) (tk_b (tk_b (tk_b (tk_l dX4_shunt_23) (tk_b (tk_l dX4_shunt_24) (tk_l dX4_shunt_26))) (tk_b (tk_l dX4_shunt_29) (tk_b (tk_l dX4_shunt_32) (tk_l dX4_shunt_33)))) (tk_b (tk_b (tk_l dX4_shunt_36) (tk_b (tk_l dX4_shunt_37) (tk_l dX4_shunt_39))) (tk_b (tk_b (tk_l dX4_shunt_40) (tk_l dX4_shunt_42)) (tk_b (tk_l dX4_shunt_45) (tk_l dX4_shunt_46)))))) (tk_b (tk_b (tk_b (tk_b (tk_l dX4_shunt_49) (tk_b (tk_l dX4_shunt_50) (tk_l dX4_shunt_53))) (tk_b (tk_l dX4_shunt_54) (tk_b (tk_l dX4_shunt_55) (tk_l dX4_shunt_56)))) (tk_b (tk_b (tk_l dX4_shunt_57) (tk_b (tk_l dX4_shunt_58) (tk_l dX4_shunt_59))) (tk_b (tk_b (tk_l dX4_shunt_61) (tk_l dX4_shunt_64)) (tk_b (tk_l dX4_shunt_65) (tk_l dX4_shunt_68))))) (tk_b (tk_b (tk_b (tk_l dX4_shunt_69) (tk_b (tk_l dX4_shunt_70) (tk_l dX4_shunt_71))) (tk_b (tk_l dX4_shunt_72) (tk_b (tk_l dX4_shunt_73) (tk_l dX4_shunt_74)))) (tk_b (tk_b (tk_l dX4_shunt_76) (tk_b (tk_l dX4_shunt_77) (tk_l dX4_shunt_79))) (tk_b (tk_b (tk_l dX4_shunt_82) (tk_l dX4_shunt_83)) (tk_b (tk_l dX4_shunt_86) (tk_l dX4_shunt_87))))))) (tk_b (tk_b (tk_b (tk_b (tk_b (tk_l dX4_shunt_90) (tk_b (tk_l dX4_shunt_91) (tk_l dX4_shunt_94))) (tk_b (tk_l dX4_shunt_97) (tk_b (tk_l dX4_shunt_98) (tk_l dX4_shunt_99)))) (tk_b (tk_b (tk_l dX4_shunt_100) (tk_b (tk_l dX4_shunt_101) (tk_l dX4_shunt_102))) (tk_b (tk_b (tk_l dX4_shunt_103) (tk_l dX4_shunt_104)) (tk_b (tk_l dX4_shunt_106) (tk_l dX4_shunt_107))))) (tk_b (tk_b (tk_b (tk_l dX4_shunt_110) (tk_b (tk_l dX4_shunt_112) (tk_l dX4_shunt_113))) (tk_b (tk_l dX4_shunt_114) (tk_b (tk_l dX4_shunt_116) (tk_l dX4_shunt_117)))) (tk_b (tk_b (tk_l dX4_shunt_118) (tk_b (tk_l dX4_shunt_119) (tk_l dX4_shunt_121))) (tk_b (tk_b (tk_l dX4_shunt_123) (tk_l dX4_shunt_125)) (tk_b (tk_l dX4_shunt_128) (tk_l dX4_shunt_129)))))) (tk_b (tk_b (tk_b (tk_b (tk_l dX4_shunt_130) (tk_b (tk_l dX4_shunt_131) (tk_l dX4_shunt_132))) (tk_b (tk_l dX4_shunt_135) (tk_b (tk_l dX4_shunt_137) (tk_l dX4_shunt_139)))) (tk_b (tk_b (tk_l dX4_shunt_140) (tk_b (tk_l dX4_shunt_141) (tk_l dX4_shunt_144))) (tk_b (tk_b (tk_l dX4_shunt_146) (tk_l dX4_shunt_147)) (tk_b (tk_l dX4_shunt_148) (tk_l dX4_shunt_150))))) (tk_b (tk_b (tk_b (tk_l dX4_shunt_151) (tk_b (tk_l dX4_shunt_152) (tk_l dX4_shunt_155))) (tk_b (tk_l dX4_shunt_158) (tk_b (tk_l dX4_shunt_161) (tk_l dX4_shunt_162)))) (tk_b (tk_b (tk_l dX4_shunt_165) (tk_b (tk_l dX4_shunt_166) (tk_l dX4_shunt_167))) (tk_b (tk_b (tk_l dX4_shunt_168) (tk_l dX4_shunt_169)) (tk_b (tk_l dX4_shunt_170) (tk_l dX4_shunt_171))))))))
def tbX4_wash (pc : Nat) : Option (Instr × Nat) := (cond (Nat.ble pc 43) (cond (Nat.ble pc 20) (cond (Nat.ble pc 9) (cond (Nat.ble pc 2) (cond (Nat.ble pc 0) (cond (Nat.beq pc 0) (some (.aload_n 0, 1)) none) (cond (Nat.ble pc 1) (cond (Nat.beq pc 1) (some (.iload_n 1, 1)) none) (cond (Nat.beq pc 2) (some (.invokestatic 88, 3)) none))) (cond (Nat.ble pc 5) (cond (Nat.beq pc 5) (some (.ifCond .ne 7, 3)) none) (cond (Nat.ble pc 8) (cond (Nat.beq pc 8) (some (.iconst 1, 1)) none) (cond (Nat.beq pc 9) (some (.goto 19, 3)) none)))) (cond (Nat.ble pc 16) (cond (Nat.ble pc 12) (cond (Nat.beq pc 12) (some (.aload_n 0, 1)) none) (cond (Nat.ble pc 13) (cond (Nat.beq pc 13) (some (.getfield 19, 3)) none) (cond (Nat.beq pc 16) (some (.iconst 5, 1)) none))) (cond (Nat.ble pc 18) (cond (Nat.ble pc 17) (cond (Nat.beq pc 17) (some (.iload_n 1, 1)) none) (cond (Nat.beq pc 18) (some (.imul, 1)) none)) (cond (Nat.ble pc 19) (cond (Nat.beq pc 19) (some (.iaload, 1)) none) (cond (Nat.beq pc 20) (some (.ifCond .ne 7, 3)) none))))) (cond (Nat.ble pc 32) (cond (Nat.ble pc 27) (cond (Nat.ble pc 23) (cond (Nat.beq pc 23) (some (.iconst 2, 1)) none) (cond (Nat.ble pc 24) (cond (Nat.beq pc 24) (some (.goto 4, 3)) none) (cond (Nat.beq pc 27) (some (.iconst 0, 1)) none))) (cond (Nat.ble pc 28) (cond (Nat.beq pc 28) (some (.putfield 80, 3)) none) (cond (Nat.ble pc 31) (cond (Nat.beq pc 31) (some (.aload_n 0, 1)) none) (cond (Nat.beq pc 32) (some (.getfield 80, 3)) none)))) (cond (Nat.ble pc 39) (cond (Nat.ble pc 35) (cond (Nat.beq pc 35) (some (.ifCond .le 5, 3)) none) (cond (Nat.ble pc 38) (cond (Nat.beq pc 38) (some (.iconst 0, 1)) none) (cond (Nat.beq pc 39) (some (.ireturn, 1)) none))) (cond (Nat.ble pc 41) (cond (Nat.ble pc 40) (cond (Nat.beq pc 40) (some (.iconst 5, 1)) none) (cond (Nat.beq pc 41) (some (.iload_n 1, 1)) none)) (cond (Nat.ble pc 42) (cond (Nat.beq pc 42) (some (.imul, 1)) none) (cond (Nat.beq pc 43) (some (.istore_n 2, 1)) none)))))) (cond (Nat.ble pc 61) (cond (Nat.ble pc 52) (cond (Nat.ble pc 48) (cond (Nat.ble pc 44) (cond (Nat.beq pc 44) (some (.aload_n 0, 1)) none) (cond (Nat.ble pc 45) (cond (Nat.beq pc 45) (some (.getfield 22, 3)) none) (cond (Nat.beq pc 48) (some (.bipush 6, 2)) none))) (cond (Nat.ble pc 50) (cond (Nat.beq pc 50) (some (.iload_n 2, 1)) none) (cond (Nat.ble pc 51) (cond (Nat.beq pc 51) (some (.imul, 1)) none) (cond (Nat.beq pc 52) (some (.aload_n 0, 1)) none)))) (cond (Nat.ble pc 57) (cond (Nat.ble pc 53) (cond (Nat.beq pc 53) (some (.getfield 19, 3)) none) (cond (Nat.ble pc 56) (cond (Nat.beq pc 56) (some (.iload_n 2, 1)) none) (cond (Nat.beq pc 57) (some (.iaload, 1)) none))) (cond (Nat.ble pc 59) (cond (Nat.ble pc 58) (cond (Nat.beq pc 58) (some (.iadd, 1)) none) (cond (Nat.beq pc 59) (some (.iconst 1, 1)) none)) (cond (Nat.ble pc 60) (cond (Nat.beq pc 60) (some (.isub, 1)) none) (cond (Nat.beq pc 61) (some (.iaload, 1)) none))))) (cond (Nat.ble pc 69) (cond (Nat.ble pc 64) (cond (Nat.ble pc 62) (cond (Nat.beq pc 62) (some (.istore_n 3, 1)) none) (cond (Nat.ble pc 63) (cond (Nat.beq pc 63) (some (.aload_n 0, 1)) none) (cond (Nat.beq pc 64) (some (.getfield 13, 3)) none))) (cond (Nat.ble pc 67) (cond (Nat.beq pc 67) (some (.iload_n 3, 1)) none) (cond (Nat.ble pc 68) (cond (Nat.beq pc 68) (some (.iaload, 1)) none) (cond (Nat.beq pc 69) (some (.istore 4, 2)) none)))) (cond (Nat.ble pc 75) (cond (Nat.ble pc 71) (cond (Nat.beq pc 71) (some (.aload_n 0, 1)) none) (cond (Nat.ble pc 72) (cond (Nat.beq pc 72) (some (.getfield 13, 3)) none) (cond (Nat.beq pc 75) (some (.iload_n 3, 1)) none))) (cond (Nat.ble pc 77) (cond (Nat.ble pc 76) (cond (Nat.beq pc 76) (some (.iconst (-1), 1)) none) (cond (Nat.beq pc 77) (some (.iastore, 1)) none)) (cond (Nat.ble pc 78) (cond (Nat.beq pc 78) (some (.iload 4, 2)) none) (cond (Nat.beq pc 80) (some (.ireturn, 1)) none)))))))
theorem tkX4_wash : tkAll cX4_wash tbX4_wash := fun pc => (tk_b (tk_b (tk_b (tk_b (tk_b (tk_l dX4_wash_0) (tk_b (tk_l dX4_wash_1) (tk_l dX4_wash_2))) (tk_b (tk_l dX4_wash_5) (tk_b (tk_l dX4_wash_8) (tk_l dX4_wash_9)))) (tk_b (tk_b (tk_l dX4_wash_12) (tk_b (tk_l dX4_wash_13) (tk_l dX4_wash_16))) (tk_b (tk_b (tk_l dX4_wash_17) (tk_l dX4_wash_18)) (tk_b (tk_l dX4_wash_19) (tk_l dX4_wash_20))))) (tk_b (tk_b (tk_b (tk_l dX4_wash_23) (tk_b (tk_l dX4_wash_24) (tk_l dX4_wash_27))) (tk_b (tk_l dX4_wash_28) (tk_b (tk_l dX4_wash_31) (tk_l dX4_wash_32)))) (tk_b (tk_b (tk_l dX4_wash_35) (tk_b (tk_l dX4_wash_38) (tk_l dX4_wash_39))) (tk_b (tk_b (tk_l dX4_wash_40) (tk_l dX4_wash_41)) (tk_b (tk_l dX4_wash_42) (tk_l dX4_wash_43)))))) (tk_b (tk_b (tk_b (tk_b (tk_l dX4_wash_44) (tk_b (tk_l dX4_wash_45) (tk_l dX4_wash_48))) (tk_b (tk_l dX4_wash_50) (tk_b (tk_l dX4_wash_51) (tk_l dX4_wash_52)))) (tk_b (tk_b (tk_l dX4_wash_53) (tk_b (tk_l dX4_wash_56) (tk_l dX4_wash_57))) (tk_b (tk_b (tk_l dX4_wash_58) (tk_l dX4_wash_59)) (tk_b (tk_l dX4_wash_60) (tk_l dX4_wash_61))))) (tk_b (tk_b (tk_b (tk_l dX4_wash_62) (tk_b (tk_l dX4_wash_63) (tk_l dX4_wash_64))) (tk_b (tk_l dX4_wash_67) (tk_b (tk_l dX4_wash_68) (tk_l dX4_wash_69)))) (tk_b (tk_b (tk_l dX4_wash_71) (tk_b (tk_l dX4_wash_72) (tk_l dX4_wash_75))) (tk_b (tk_b (tk_l dX4_wash_76) (tk_l dX4_wash_77)) (tk_b (tk_l dX4_wash_78) (tk_l dX4_wash_80)))))))
def tbX4_follow (pc : Nat) : Option (Instr × Nat) := (cond (Nat.ble pc 38) (cond (Nat.ble pc 17) (cond (Nat.ble pc 8) (cond (Nat.ble pc 1) (cond (Nat.ble pc 0) (cond (Nat.beq pc 0) (some (.aload_n 0, 1)) none) (cond (Nat.beq pc 1) (some (.iload_n 1, 1)) none)) (cond (Nat.ble pc 2) (cond (Nat.beq pc 2) (some (.invokestatic 103, 3)) none) (cond (Nat.ble pc 5) (cond (Nat.beq pc 5) (some (.ifCond .eq 19, 3)) none) (cond (Nat.beq pc 8) (some (.iload_n 2, 1)) none)))) (cond (Nat.ble pc 12) (cond (Nat.ble pc 9) (cond (Nat.beq pc 9) (some (.invokestatic 103, 3)) none) (cond (Nat.beq pc 12) (some (.ifCond .eq 12, 3)) none)) (cond (Nat.ble pc 15) (cond (Nat.beq pc 15) (some (.iload_n 1, 1)) none) (cond (Nat.ble pc 16) (cond (Nat.beq pc 16) (some (.iload_n 2, 1)) none) (cond (Nat.beq pc 17) (some (.if_icmp .eq 7, 3)) none))))) (cond (Nat.ble pc 28) (cond (Nat.ble pc 21) (cond (Nat.ble pc 20) (cond (Nat.beq pc 20) (some (.iconst 0, 1)) none) (cond (Nat.beq pc 21) (some (.goto 4, 3)) none)) (cond (Nat.ble pc 24) (cond (Nat.beq pc 24) (some (.iconst 1, 1)) none) (cond (Nat.ble pc 25) (cond (Nat.beq pc 25) (some (.putfield 80, 3)) none) (cond (Nat.beq pc 28) (some (.aload_n 0, 1)) none)))) (cond (Nat.ble pc 35) (cond (Nat.ble pc 29) (cond (Nat.beq pc 29) (some (.getfield 80, 3)) none) (cond (Nat.ble pc 32) (cond (Nat.beq pc 32) (some (.ifCond .le 5, 3)) none) (cond (Nat.beq pc 35) (some (.iconst 0, 1)) none))) (cond (Nat.ble pc 36) (cond (Nat.beq pc 36) (some (.ireturn, 1)) none) (cond (Nat.ble pc 37) (cond (Nat.beq pc 37) (some (.aload_n 0, 1)) none) (cond (Nat.beq pc 38) (some (.getfield 25, 3)) none)))))) (cond (Nat.ble pc 53) (cond (Nat.ble pc 45) (cond (Nat.ble pc 42) (cond (Nat.ble pc 41) (cond (Nat.beq pc 41) (some (.iload_n 1, 1)) none) (cond (Nat.beq pc 42) (some (.dup2, 1)) none)) (cond (Nat.ble pc 43) (cond (Nat.beq pc 43) (some (.iaload, 1)) none) (cond (Nat.ble pc 44) (cond (Nat.beq pc 44) (some (.iconst 1, 1)) none) (cond (Nat.beq pc 45) (some (.iload_n 2, 1)) none)))) (cond (Nat.ble pc 48) (cond (Nat.ble pc 46) (cond (Nat.beq pc 46) (some (.ishl, 1)) none) (cond (Nat.ble pc 47) (cond (Nat.beq pc 47) (some (.ixor, 1)) none) (cond (Nat.beq pc 48) (some (.iastore, 1)) none))) (cond (Nat.ble pc 49) (cond (Nat.beq pc 49) (some (.aload_n 0, 1)) none) (cond (Nat.ble pc 50) (cond (Nat.beq pc 50) (some (.getfield 25, 3)) none) (cond (Nat.beq pc 53) (some (.iload_n 1, 1)) none))))) (cond (Nat.ble pc 58) (cond (Nat.ble pc 55) (cond (Nat.ble pc 54) (cond (Nat.beq pc 54) (some (.iaload, 1)) none) (cond (Nat.beq pc 55) (some (.iload_n 2, 1)) none)) (cond (Nat.ble pc 56) (cond (Nat.beq pc 56) (some (.ishr, 1)) none) (cond (Nat.ble pc 57) (cond (Nat.beq pc 57) (some (.iconst 1, 1)) none) (cond (Nat.beq pc 58) (some (.iand, 1)) none)))) (cond (Nat.ble pc 63) (cond (Nat.ble pc 59) (cond (Nat.beq pc 59) (some (.iconst 1, 1)) none) (cond (Nat.ble pc 60) (cond (Nat.beq pc 60) (some (.if_icmp .ne 7, 3)) none) (cond (Nat.beq pc 63) (some (.iconst 1, 1)) none))) (cond (Nat.ble pc 64) (cond (Nat.beq pc 64) (some (.goto 4, 3)) none) (cond (Nat.ble pc 67) (cond (Nat.beq pc 67) (some (.iconst 0, 1)) none) (cond (Nat.beq pc 68) (some (.ireturn, 1)) none)))))))
theorem tkX4_follow : tkAll cX4_follow tbX4_follow := fun pc => (tk_b (tk_b (tk_b (tk_b (tk_b (tk_l dX4_follow_0) (tk_l dX4_follow_1)) (tk_b (tk_l dX4_follow_2) (tk_b (tk_l dX4_follow_5) (tk_l dX4_follow_8)))) (tk_b (tk_b (tk_l dX4_follow_9) (tk_l dX4_follow_12)) (tk_b (tk_l dX4_follow_15) (tk_b (tk_l dX4_follow_16) (tk_l dX4_follow_17))))) (tk_b (tk_b (tk_b (tk_l dX4_follow_20) (tk_l dX4_follow_21)) (tk_b (tk_l dX4_follow_24) (tk_b (tk_l dX4_follow_25) (tk_l dX4_follow_28)))) (tk_b (tk_b (tk_l dX4_follow_29) (tk_b (tk_l dX4_follow_32) (tk_l dX4_follow_35))) (tk_b (tk_l dX4_follow_36) (tk_b (tk_l dX4_follow_37) (tk_l dX4_follow_38)))))) (tk_b (tk_b (tk_b (tk_b (tk_l dX4_follow_41) (tk_l dX4_follow_42)) (tk_b (tk_l dX4_follow_43) (tk_b (tk_l dX4_follow_44) (tk_l dX4_follow_45)))) (tk_b (tk_b (tk_l dX4_follow_46) (tk_b (tk_l dX4_follow_47) (tk_l dX4_follow_48))) (tk_b (tk_l dX4_follow_49) (tk_b (tk_l dX4_follow_50) (tk_l dX4_follow_53))))) (tk_b (tk_b (tk_b (tk_l dX4_follow_54) (tk_l dX4_follow_55)) (tk_b (tk_l dX4_follow_56) (tk_b (tk_l dX4_follow_57) (tk_l dX4_follow_58)))) (tk_b (tk_b (tk_l dX4_follow_59) (tk_b (tk_l dX4_follow_60) (tk_l dX4_follow_63))) (tk_b (tk_l dX4_follow_64) (tk_b (tk_l dX4_follow_67) (tk_l dX4_follow_68)))))))
def tbX4_isGrain (pc : Nat) : Option (Instr × Nat) := (cond (Nat.ble pc 1) (cond (Nat.ble pc 0) (cond (Nat.beq pc 0) (some (.iload_n 0, 1)) none) (cond (Nat.beq pc 1) (some (.iconst 0, 1)) none)) (cond (Nat.ble pc 2) (cond (Nat.beq pc 2) (some (.iconst 3, 1)) none) (cond (Nat.ble pc 3) (cond (Nat.beq pc 3) (some (.invokestatic 84, 3)) none) (cond (Nat.beq pc 6) (some (.ireturn, 1)) none))))
theorem tkX4_isGrain : tkAll cX4_isGrain tbX4_isGrain := fun pc => (tk_b (tk_b (tk_l dX4_isGrain_0) (tk_l dX4_isGrain_1)) (tk_b (tk_l dX4_isGrain_2) (tk_b (tk_l dX4_isGrain_3) (tk_l dX4_isGrain_6))))
def tbX4_on (pc : Nat) : Option (Instr × Nat) := (cond (Nat.ble pc 18) (cond (Nat.ble pc 6) (cond (Nat.ble pc 1) (cond (Nat.ble pc 0) (cond (Nat.beq pc 0) (some (.aload_n 0, 1)) none) (cond (Nat.beq pc 1) (some (.iload_n 1, 1)) none)) (cond (Nat.ble pc 2) (cond (Nat.beq pc 2) (some (.iload_n 2, 1)) none) (cond (Nat.ble pc 3) (cond (Nat.beq pc 3) (some (.invokestatic 95, 3)) none) (cond (Nat.beq pc 6) (some (.ifCond .eq 7, 3)) none)))) (cond (Nat.ble pc 13) (cond (Nat.ble pc 9) (cond (Nat.beq pc 9) (some (.iconst 0, 1)) none) (cond (Nat.ble pc 10) (cond (Nat.beq pc 10) (some (.goto 4, 3)) none) (cond (Nat.beq pc 13) (some (.iconst 1, 1)) none))) (cond (Nat.ble pc 14) (cond (Nat.beq pc 14) (some (.putfield 80, 3)) none) (cond (Nat.ble pc 17) (cond (Nat.beq pc 17) (some (.aload_n 0, 1)) none) (cond (Nat.beq pc 18) (some (.getfield 80, 3)) none))))) (cond (Nat.ble pc 32) (cond (Nat.ble pc 25) (cond (Nat.ble pc 21) (cond (Nat.beq pc 21) (some (.ifCond .le 7, 3)) none) (cond (Nat.ble pc 24) (cond (Nat.beq pc 24) (some (.iconst 0, 1)) none) (cond (Nat.beq pc 25) (some (.goto 13, 3)) none))) (cond (Nat.ble pc 28) (cond (Nat.beq pc 28) (some (.aload_n 0, 1)) none) (cond (Nat.ble pc 29) (cond (Nat.beq pc 29) (some (.getfield 19, 3)) none) (cond (Nat.beq pc 32) (some (.iconst 5, 1)) none)))) (cond (Nat.ble pc 35) (cond (Nat.ble pc 33) (cond (Nat.beq pc 33) (some (.iload_n 1, 1)) none) (cond (Nat.ble pc 34) (cond (Nat.beq pc 34) (some (.imul, 1)) none) (cond (Nat.beq pc 35) (some (.iload_n 2, 1)) none))) (cond (Nat.ble pc 36) (cond (Nat.beq pc 36) (some (.iadd, 1)) none) (cond (Nat.ble pc 37) (cond (Nat.beq pc 37) (some (.iaload, 1)) none) (cond (Nat.beq pc 38) (some (.ireturn, 1)) none))))))
theorem tkX4_on : tkAll cX4_on tbX4_on := fun pc => (tk_b (tk_b (tk_b (tk_b (tk_l dX4_on_0) (tk_l dX4_on_1)) (tk_b (tk_l dX4_on_2) (tk_b (tk_l dX4_on_3) (tk_l dX4_on_6)))) (tk_b (tk_b (tk_l dX4_on_9) (tk_b (tk_l dX4_on_10) (tk_l dX4_on_13))) (tk_b (tk_l dX4_on_14) (tk_b (tk_l dX4_on_17) (tk_l dX4_on_18))))) (tk_b (tk_b (tk_b (tk_l dX4_on_21) (tk_b (tk_l dX4_on_24) (tk_l dX4_on_25))) (tk_b (tk_l dX4_on_28) (tk_b (tk_l dX4_on_29) (tk_l dX4_on_32)))) (tk_b (tk_b (tk_l dX4_on_33) (tk_b (tk_l dX4_on_34) (tk_l dX4_on_35))) (tk_b (tk_l dX4_on_36) (tk_b (tk_l dX4_on_37) (tk_l dX4_on_38))))))
def tbX4_at (pc : Nat) : Option (Instr × Nat) := (cond (Nat.ble pc 2) (cond (Nat.ble pc 0) (cond (Nat.beq pc 0) (some (.aload_n 0, 1)) none) (cond (Nat.ble pc 1) (cond (Nat.beq pc 1) (some (.iload_n 1, 1)) none) (cond (Nat.beq pc 2) (some (.iload_n 2, 1)) none))) (cond (Nat.ble pc 3) (cond (Nat.beq pc 3) (some (.iload_n 3, 1)) none) (cond (Nat.ble pc 4) (cond (Nat.beq pc 4) (some (.invokevirtual 106, 3)) none) (cond (Nat.beq pc 7) (some (.ireturn, 1)) none))))
theorem tkX4_at : tkAll cX4_at tbX4_at := fun pc => (tk_b (tk_b (tk_l dX4_at_0) (tk_b (tk_l dX4_at_1) (tk_l dX4_at_2))) (tk_b (tk_l dX4_at_3) (tk_b (tk_l dX4_at_4) (tk_l dX4_at_7))))
def tbX4_wagonAt (pc : Nat) : Option (Instr × Nat) := (cond (Nat.ble pc 30) (cond (Nat.ble pc 15) (cond (Nat.ble pc 6) (cond (Nat.ble pc 1) (cond (Nat.ble pc 0) (cond (Nat.beq pc 0) (some (.aload_n 0, 1)) none) (cond (Nat.beq pc 1) (some (.iload_n 1, 1)) none)) (cond (Nat.ble pc 2) (cond (Nat.beq pc 2) (some (.iload_n 2, 1)) none) (cond (Nat.ble pc 3) (cond (Nat.beq pc 3) (some (.invokestatic 95, 3)) none) (cond (Nat.beq pc 6) (some (.ifCond .ne 7, 3)) none)))) (cond (Nat.ble pc 10) (cond (Nat.ble pc 9) (cond (Nat.beq pc 9) (some (.iconst 1, 1)) none) (cond (Nat.beq pc 10) (some (.goto 28, 3)) none)) (cond (Nat.ble pc 13) (cond (Nat.beq pc 13) (some (.iload_n 3, 1)) none) (cond (Nat.ble pc 14) (cond (Nat.beq pc 14) (some (.iconst 0, 1)) none) (cond (Nat.beq pc 15) (some (.aload_n 0, 1)) none))))) (cond (Nat.ble pc 22) (cond (Nat.ble pc 19) (cond (Nat.ble pc 16) (cond (Nat.beq pc 16) (some (.getfield 19, 3)) none) (cond (Nat.beq pc 19) (some (.iconst 5, 1)) none)) (cond (Nat.ble pc 20) (cond (Nat.beq pc 20) (some (.iload_n 1, 1)) none) (cond (Nat.ble pc 21) (cond (Nat.beq pc 21) (some (.imul, 1)) none) (cond (Nat.beq pc 22) (some (.iload_n 2, 1)) none)))) (cond (Nat.ble pc 25) (cond (Nat.ble pc 23) (cond (Nat.beq pc 23) (some (.iadd, 1)) none) (cond (Nat.ble pc 24) (cond (Nat.beq pc 24) (some (.iaload, 1)) none) (cond (Nat.beq pc 25) (some (.iconst 1, 1)) none))) (cond (Nat.ble pc 26) (cond (Nat.beq pc 26) (some (.isub, 1)) none) (cond (Nat.ble pc 27) (cond (Nat.beq pc 27) (some (.invokestatic 84, 3)) none) (cond (Nat.beq pc 30) (some (.ifCond .eq 7, 3)) none)))))) (cond (Nat.ble pc 53) (cond (Nat.ble pc 41) (cond (Nat.ble pc 34) (cond (Nat.ble pc 33) (cond (Nat.beq pc 33) (some (.iconst 0, 1)) none) (cond (Nat.beq pc 34) (some (.goto 4, 3)) none)) (cond (Nat.ble pc 37) (cond (Nat.beq pc 37) (some (.iconst 2, 1)) none) (cond (Nat.ble pc 38) (cond (Nat.beq pc 38) (some (.putfield 80, 3)) none) (cond (Nat.beq pc 41) (some (.aload_n 0, 1)) none)))) (cond (Nat.ble pc 48) (cond (Nat.ble pc 42) (cond (Nat.beq pc 42) (some (.getfield 80, 3)) none) (cond (Nat.ble pc 45) (cond (Nat.beq pc 45) (some (.ifCond .le 7, 3)) none) (cond (Nat.beq pc 48) (some (.iconst 0, 1)) none))) (cond (Nat.ble pc 49) (cond (Nat.beq pc 49) (some (.goto 18, 3)) none) (cond (Nat.ble pc 52) (cond (Nat.beq pc 52) (some (.aload_n 0, 1)) none) (cond (Nat.beq pc 53) (some (.getfield 22, 3)) none))))) (cond (Nat.ble pc 61) (cond (Nat.ble pc 58) (cond (Nat.ble pc 56) (cond (Nat.beq pc 56) (some (.bipush 6, 2)) none) (cond (Nat.beq pc 58) (some (.iconst 5, 1)) none)) (cond (Nat.ble pc 59) (cond (Nat.beq pc 59) (some (.iload_n 1, 1)) none) (cond (Nat.ble pc 60) (cond (Nat.beq pc 60) (some (.imul, 1)) none) (cond (Nat.beq pc 61) (some (.iload_n 2, 1)) none)))) (cond (Nat.ble pc 64) (cond (Nat.ble pc 62) (cond (Nat.beq pc 62) (some (.iadd, 1)) none) (cond (Nat.ble pc 63) (cond (Nat.beq pc 63) (some (.imul, 1)) none) (cond (Nat.beq pc 64) (some (.iload_n 3, 1)) none))) (cond (Nat.ble pc 65) (cond (Nat.beq pc 65) (some (.iadd, 1)) none) (cond (Nat.ble pc 66) (cond (Nat.beq pc 66) (some (.iaload, 1)) none) (cond (Nat.beq pc 67) (some (.ireturn, 1)) none)))))))
theorem tkX4_wagonAt : tkAll cX4_wagonAt tbX4_wagonAt := fun pc => (tk_b (tk_b (tk_b (tk_b (tk_b (tk_l dX4_wagonAt_0) (tk_l dX4_wagonAt_1)) (tk_b (tk_l dX4_wagonAt_2) (tk_b (tk_l dX4_wagonAt_3) (tk_l dX4_wagonAt_6)))) (tk_b (tk_b (tk_l dX4_wagonAt_9) (tk_l dX4_wagonAt_10)) (tk_b (tk_l dX4_wagonAt_13) (tk_b (tk_l dX4_wagonAt_14) (tk_l dX4_wagonAt_15))))) (tk_b (tk_b (tk_b (tk_l dX4_wagonAt_16) (tk_l dX4_wagonAt_19)) (tk_b (tk_l dX4_wagonAt_20) (tk_b (tk_l dX4_wagonAt_21) (tk_l dX4_wagonAt_22)))) (tk_b (tk_b (tk_l dX4_wagonAt_23) (tk_b (tk_l dX4_wagonAt_24) (tk_l dX4_wagonAt_25))) (tk_b (tk_l dX4_wagonAt_26) (tk_b (tk_l dX4_wagonAt_27) (tk_l dX4_wagonAt_30)))))) (tk_b (tk_b (tk_b (tk_b (tk_l dX4_wagonAt_33) (tk_l dX4_wagonAt_34)) (tk_b (tk_l dX4_wagonAt_37) (tk_b (tk_l dX4_wagonAt_38) (tk_l dX4_wagonAt_41)))) (tk_b (tk_b (tk_l dX4_wagonAt_42) (tk_b (tk_l dX4_wagonAt_45) (tk_l dX4_wagonAt_48))) (tk_b (tk_l dX4_wagonAt_49) (tk_b (tk_l dX4_wagonAt_52) (tk_l dX4_wagonAt_53))))) (tk_b (tk_b (tk_b (tk_l dX4_wagonAt_56) (tk_l dX4_wagonAt_58)) (tk_b (tk_l dX4_wagonAt_59) (tk_b (tk_l dX4_wagonAt_60) (tk_l dX4_wagonAt_61)))) (tk_b (tk_b (tk_l dX4_wagonAt_62) (tk_b (tk_l dX4_wagonAt_63) (tk_l dX4_wagonAt_64))) (tk_b (tk_l dX4_wagonAt_65) (tk_b (tk_l dX4_wagonAt_66) (tk_l dX4_wagonAt_67)))))))
def tbX4_atByReplay (pc : Nat) : Option (Instr × Nat) := (cond (Nat.ble pc 2) (cond (Nat.ble pc 0) (cond (Nat.beq pc 0) (some (.aload_n 0, 1)) none) (cond (Nat.ble pc 1) (cond (Nat.beq pc 1) (some (.iload_n 1, 1)) none) (cond (Nat.beq pc 2) (some (.iload_n 2, 1)) none))) (cond (Nat.ble pc 3) (cond (Nat.beq pc 3) (some (.iload_n 3, 1)) none) (cond (Nat.ble pc 4) (cond (Nat.beq pc 4) (some (.invokevirtual 106, 3)) none) (cond (Nat.beq pc 7) (some (.ireturn, 1)) none))))
theorem tkX4_atByReplay : tkAll cX4_atByReplay tbX4_atByReplay := fun pc => (tk_b (tk_b (tk_l dX4_atByReplay_0) (tk_b (tk_l dX4_atByReplay_1) (tk_l dX4_atByReplay_2))) (tk_b (tk_l dX4_atByReplay_3) (tk_b (tk_l dX4_atByReplay_4) (tk_l dX4_atByReplay_7))))
def tbX4_where (pc : Nat) : Option (Instr × Nat) := (cond (Nat.ble pc 8) (cond (Nat.ble pc 1) (cond (Nat.ble pc 0) (cond (Nat.beq pc 0) (some (.aload_n 0, 1)) none) (cond (Nat.beq pc 1) (some (.iload_n 1, 1)) none)) (cond (Nat.ble pc 2) (cond (Nat.beq pc 2) (some (.invokevirtual 113, 3)) none) (cond (Nat.ble pc 5) (cond (Nat.beq pc 5) (some (.ifCond .eq 12, 3)) none) (cond (Nat.beq pc 8) (some (.aload_n 0, 1)) none)))) (cond (Nat.ble pc 13) (cond (Nat.ble pc 9) (cond (Nat.beq pc 9) (some (.getfield 7, 3)) none) (cond (Nat.ble pc 12) (cond (Nat.beq pc 12) (some (.iload_n 1, 1)) none) (cond (Nat.beq pc 13) (some (.iaload, 1)) none))) (cond (Nat.ble pc 14) (cond (Nat.beq pc 14) (some (.goto 4, 3)) none) (cond (Nat.ble pc 17) (cond (Nat.beq pc 17) (some (.iconst 0, 1)) none) (cond (Nat.beq pc 18) (some (.ireturn, 1)) none)))))
theorem tkX4_where : tkAll cX4_where tbX4_where := fun pc => (tk_b (tk_b (tk_b (tk_l dX4_where_0) (tk_l dX4_where_1)) (tk_b (tk_l dX4_where_2) (tk_b (tk_l dX4_where_5) (tk_l dX4_where_8)))) (tk_b (tk_b (tk_l dX4_where_9) (tk_b (tk_l dX4_where_12) (tk_l dX4_where_13))) (tk_b (tk_l dX4_where_14) (tk_b (tk_l dX4_where_17) (tk_l dX4_where_18)))))
def tbX4_asksWagon (pc : Nat) : Option (Instr × Nat) := (cond (Nat.ble pc 13) (cond (Nat.ble pc 3) (cond (Nat.ble pc 1) (cond (Nat.ble pc 0) (cond (Nat.beq pc 0) (some (.aload_n 0, 1)) none) (cond (Nat.beq pc 1) (some (.aload_n 0, 1)) none)) (cond (Nat.ble pc 2) (cond (Nat.beq pc 2) (some (.iload_n 1, 1)) none) (cond (Nat.beq pc 3) (some (.invokevirtual 110, 3)) none))) (cond (Nat.ble pc 9) (cond (Nat.ble pc 6) (cond (Nat.beq pc 6) (some (.ifCond .eq 7, 3)) none) (cond (Nat.beq pc 9) (some (.iconst 0, 1)) none)) (cond (Nat.ble pc 10) (cond (Nat.beq pc 10) (some (.goto 4, 3)) none) (cond (Nat.beq pc 13) (some (.iconst 1, 1)) none)))) (cond (Nat.ble pc 21) (cond (Nat.ble pc 17) (cond (Nat.ble pc 14) (cond (Nat.beq pc 14) (some (.putfield 80, 3)) none) (cond (Nat.beq pc 17) (some (.aload_n 0, 1)) none)) (cond (Nat.ble pc 18) (cond (Nat.beq pc 18) (some (.getfield 80, 3)) none) (cond (Nat.beq pc 21) (some (.ifCond .ne 7, 3)) none))) (cond (Nat.ble pc 25) (cond (Nat.ble pc 24) (cond (Nat.beq pc 24) (some (.iconst 1, 1)) none) (cond (Nat.beq pc 25) (some (.goto 4, 3)) none)) (cond (Nat.ble pc 28) (cond (Nat.beq pc 28) (some (.iconst 0, 1)) none) (cond (Nat.beq pc 29) (some (.ireturn, 1)) none)))))
theorem tkX4_asksWagon : tkAll cX4_asksWagon tbX4_asksWagon := fun pc => (tk_b (tk_b (tk_b (tk_b (tk_l dX4_asksWagon_0) (tk_l dX4_asksWagon_1)) (tk_b (tk_l dX4_asksWagon_2) (tk_l dX4_asksWagon_3))) (tk_b (tk_b (tk_l dX4_asksWagon_6) (tk_l dX4_asksWagon_9)) (tk_b (tk_l dX4_asksWagon_10) (tk_l dX4_asksWagon_13)))) (tk_b (tk_b (tk_b (tk_l dX4_asksWagon_14) (tk_l dX4_asksWagon_17)) (tk_b (tk_l dX4_asksWagon_18) (tk_l dX4_asksWagon_21))) (tk_b (tk_b (tk_l dX4_asksWagon_24) (tk_l dX4_asksWagon_25)) (tk_b (tk_l dX4_asksWagon_28) (tk_l dX4_asksWagon_29)))))
def tbX4_isWagon (pc : Nat) : Option (Instr × Nat) := (cond (Nat.ble pc 3) (cond (Nat.ble pc 1) (cond (Nat.ble pc 0) (cond (Nat.beq pc 0) (some (.iload_n 1, 1)) none) (cond (Nat.beq pc 1) (some (.iconst 0, 1)) none)) (cond (Nat.ble pc 2) (cond (Nat.beq pc 2) (some (.aload_n 0, 1)) none) (cond (Nat.beq pc 3) (some (.getfield 92, 3)) none))) (cond (Nat.ble pc 7) (cond (Nat.ble pc 6) (cond (Nat.beq pc 6) (some (.iconst 1, 1)) none) (cond (Nat.beq pc 7) (some (.isub, 1)) none)) (cond (Nat.ble pc 8) (cond (Nat.beq pc 8) (some (.invokestatic 84, 3)) none) (cond (Nat.beq pc 11) (some (.ireturn, 1)) none))))
theorem tkX4_isWagon : tkAll cX4_isWagon tbX4_isWagon := fun pc => (tk_b (tk_b (tk_b (tk_l dX4_isWagon_0) (tk_l dX4_isWagon_1)) (tk_b (tk_l dX4_isWagon_2) (tk_l dX4_isWagon_3))) (tk_b (tk_b (tk_l dX4_isWagon_6) (tk_l dX4_isWagon_7)) (tk_b (tk_l dX4_isWagon_8) (tk_l dX4_isWagon_11))))
def tbX4_carried (pc : Nat) : Option (Instr × Nat) := (cond (Nat.ble pc 8) (cond (Nat.ble pc 1) (cond (Nat.ble pc 0) (cond (Nat.beq pc 0) (some (.aload_n 0, 1)) none) (cond (Nat.beq pc 1) (some (.iload_n 1, 1)) none)) (cond (Nat.ble pc 2) (cond (Nat.beq pc 2) (some (.invokevirtual 113, 3)) none) (cond (Nat.ble pc 5) (cond (Nat.beq pc 5) (some (.ifCond .eq 12, 3)) none) (cond (Nat.beq pc 8) (some (.aload_n 0, 1)) none)))) (cond (Nat.ble pc 13) (cond (Nat.ble pc 9) (cond (Nat.beq pc 9) (some (.getfield 13, 3)) none) (cond (Nat.ble pc 12) (cond (Nat.beq pc 12) (some (.iload_n 1, 1)) none) (cond (Nat.beq pc 13) (some (.iaload, 1)) none))) (cond (Nat.ble pc 14) (cond (Nat.beq pc 14) (some (.goto 4, 3)) none) (cond (Nat.ble pc 17) (cond (Nat.beq pc 17) (some (.iconst 0, 1)) none) (cond (Nat.beq pc 18) (some (.ireturn, 1)) none)))))
theorem tkX4_carried : tkAll cX4_carried tbX4_carried := fun pc => (tk_b (tk_b (tk_b (tk_l dX4_carried_0) (tk_l dX4_carried_1)) (tk_b (tk_l dX4_carried_2) (tk_b (tk_l dX4_carried_5) (tk_l dX4_carried_8)))) (tk_b (tk_b (tk_l dX4_carried_9) (tk_b (tk_l dX4_carried_12) (tk_l dX4_carried_13))) (tk_b (tk_l dX4_carried_14) (tk_b (tk_l dX4_carried_17) (tk_l dX4_carried_18)))))
def tbX4_promised (pc : Nat) : Option (Instr × Nat) := (cond (Nat.ble pc 13) (cond (Nat.ble pc 5) (cond (Nat.ble pc 1) (cond (Nat.ble pc 0) (cond (Nat.beq pc 0) (some (.aload_n 0, 1)) none) (cond (Nat.beq pc 1) (some (.iload_n 1, 1)) none)) (cond (Nat.ble pc 2) (cond (Nat.beq pc 2) (some (.invokevirtual 113, 3)) none) (cond (Nat.beq pc 5) (some (.ifCond .ne 7, 3)) none))) (cond (Nat.ble pc 9) (cond (Nat.ble pc 8) (cond (Nat.beq pc 8) (some (.iconst 0, 1)) none) (cond (Nat.beq pc 9) (some (.goto 21, 3)) none)) (cond (Nat.ble pc 12) (cond (Nat.beq pc 12) (some (.aload_n 0, 1)) none) (cond (Nat.beq pc 13) (some (.iload_n 1, 1)) none)))) (cond (Nat.ble pc 21) (cond (Nat.ble pc 17) (cond (Nat.ble pc 14) (cond (Nat.beq pc 14) (some (.invokevirtual 116, 3)) none) (cond (Nat.beq pc 17) (some (.ifCond .eq 12, 3)) none)) (cond (Nat.ble pc 20) (cond (Nat.beq pc 20) (some (.aload_n 0, 1)) none) (cond (Nat.beq pc 21) (some (.getfield 16, 3)) none))) (cond (Nat.ble pc 25) (cond (Nat.ble pc 24) (cond (Nat.beq pc 24) (some (.iload_n 1, 1)) none) (cond (Nat.beq pc 25) (some (.iaload, 1)) none)) (cond (Nat.ble pc 26) (cond (Nat.beq pc 26) (some (.goto 4, 3)) none) (cond (Nat.ble pc 29) (cond (Nat.beq pc 29) (some (.iconst (-1), 1)) none) (cond (Nat.beq pc 30) (some (.ireturn, 1)) none))))))
theorem tkX4_promised : tkAll cX4_promised tbX4_promised := fun pc => (tk_b (tk_b (tk_b (tk_b (tk_l dX4_promised_0) (tk_l dX4_promised_1)) (tk_b (tk_l dX4_promised_2) (tk_l dX4_promised_5))) (tk_b (tk_b (tk_l dX4_promised_8) (tk_l dX4_promised_9)) (tk_b (tk_l dX4_promised_12) (tk_l dX4_promised_13)))) (tk_b (tk_b (tk_b (tk_l dX4_promised_14) (tk_l dX4_promised_17)) (tk_b (tk_l dX4_promised_20) (tk_l dX4_promised_21))) (tk_b (tk_b (tk_l dX4_promised_24) (tk_l dX4_promised_25)) (tk_b (tk_l dX4_promised_26) (tk_b (tk_l dX4_promised_29) (tk_l dX4_promised_30))))))
def tbX4_isPromised (pc : Nat) : Option (Instr × Nat) := (cond (Nat.ble pc 14) (cond (Nat.ble pc 5) (cond (Nat.ble pc 1) (cond (Nat.ble pc 0) (cond (Nat.beq pc 0) (some (.aload_n 0, 1)) none) (cond (Nat.beq pc 1) (some (.getfield 16, 3)) none)) (cond (Nat.ble pc 4) (cond (Nat.beq pc 4) (some (.iload_n 1, 1)) none) (cond (Nat.beq pc 5) (some (.iaload, 1)) none))) (cond (Nat.ble pc 7) (cond (Nat.ble pc 6) (cond (Nat.beq pc 6) (some (.iconst (-1), 1)) none) (cond (Nat.beq pc 7) (some (.if_icmp .eq 22, 3)) none)) (cond (Nat.ble pc 10) (cond (Nat.beq pc 10) (some (.aload_n 0, 1)) none) (cond (Nat.ble pc 11) (cond (Nat.beq pc 11) (some (.getfield 47, 3)) none) (cond (Nat.beq pc 14) (some (.aload_n 0, 1)) none))))) (cond (Nat.ble pc 21) (cond (Nat.ble pc 18) (cond (Nat.ble pc 15) (cond (Nat.beq pc 15) (some (.getfield 16, 3)) none) (cond (Nat.beq pc 18) (some (.iload_n 1, 1)) none)) (cond (Nat.ble pc 19) (cond (Nat.beq pc 19) (some (.iaload, 1)) none) (cond (Nat.ble pc 20) (cond (Nat.beq pc 20) (some (.iaload, 1)) none) (cond (Nat.beq pc 21) (some (.iconst 4, 1)) none)))) (cond (Nat.ble pc 25) (cond (Nat.ble pc 22) (cond (Nat.beq pc 22) (some (.if_icmp .ge 7, 3)) none) (cond (Nat.beq pc 25) (some (.iconst 1, 1)) none)) (cond (Nat.ble pc 26) (cond (Nat.beq pc 26) (some (.goto 4, 3)) none) (cond (Nat.ble pc 29) (cond (Nat.beq pc 29) (some (.iconst 0, 1)) none) (cond (Nat.beq pc 30) (some (.ireturn, 1)) none))))))
theorem tkX4_isPromised : tkAll cX4_isPromised tbX4_isPromised := fun pc => (tk_b (tk_b (tk_b (tk_b (tk_l dX4_isPromised_0) (tk_l dX4_isPromised_1)) (tk_b (tk_l dX4_isPromised_4) (tk_l dX4_isPromised_5))) (tk_b (tk_b (tk_l dX4_isPromised_6) (tk_l dX4_isPromised_7)) (tk_b (tk_l dX4_isPromised_10) (tk_b (tk_l dX4_isPromised_11) (tk_l dX4_isPromised_14))))) (tk_b (tk_b (tk_b (tk_l dX4_isPromised_15) (tk_l dX4_isPromised_18)) (tk_b (tk_l dX4_isPromised_19) (tk_b (tk_l dX4_isPromised_20) (tk_l dX4_isPromised_21)))) (tk_b (tk_b (tk_l dX4_isPromised_22) (tk_l dX4_isPromised_25)) (tk_b (tk_l dX4_isPromised_26) (tk_b (tk_l dX4_isPromised_29) (tk_l dX4_isPromised_30))))))
def tbX4_call (pc : Nat) : Option (Instr × Nat) := (cond (Nat.ble pc 75) (cond (Nat.ble pc 39) (cond (Nat.ble pc 17) (cond (Nat.ble pc 4) (cond (Nat.ble pc 1) (cond (Nat.ble pc 0) (cond (Nat.beq pc 0) (some (.aload_n 0, 1)) none) (cond (Nat.beq pc 1) (some (.iload_n 1, 1)) none)) (cond (Nat.ble pc 2) (cond (Nat.beq pc 2) (some (.iconst 0, 1)) none) (cond (Nat.ble pc 3) (cond (Nat.beq pc 3) (some (.iconst 5, 1)) none) (cond (Nat.beq pc 4) (some (.invokestatic 84, 3)) none)))) (cond (Nat.ble pc 10) (cond (Nat.ble pc 7) (cond (Nat.beq pc 7) (some (.ifCond .eq 10, 3)) none) (cond (Nat.beq pc 10) (some (.iload_n 2, 1)) none)) (cond (Nat.ble pc 11) (cond (Nat.beq pc 11) (some (.invokestatic 88, 3)) none) (cond (Nat.ble pc 14) (cond (Nat.beq pc 14) (some (.ifCond .ne 7, 3)) none) (cond (Nat.beq pc 17) (some (.iconst 1, 1)) none))))) (cond (Nat.ble pc 26) (cond (Nat.ble pc 21) (cond (Nat.ble pc 18) (cond (Nat.beq pc 18) (some (.goto 26, 3)) none) (cond (Nat.beq pc 21) (some (.aload_n 0, 1)) none)) (cond (Nat.ble pc 22) (cond (Nat.beq pc 22) (some (.iload_n 1, 1)) none) (cond (Nat.ble pc 23) (cond (Nat.beq pc 23) (some (.invokevirtual 132, 3)) none) (cond (Nat.beq pc 26) (some (.iconst (-1), 1)) none)))) (cond (Nat.ble pc 31) (cond (Nat.ble pc 27) (cond (Nat.beq pc 27) (some (.if_icmp .ne 12, 3)) none) (cond (Nat.ble pc 30) (cond (Nat.beq pc 30) (some (.aload_n 0, 1)) none) (cond (Nat.beq pc 31) (some (.getfield 119, 3)) none))) (cond (Nat.ble pc 34) (cond (Nat.beq pc 34) (some (.bipush 60, 2)) none) (cond (Nat.ble pc 36) (cond (Nat.beq pc 36) (some (.if_icmp .ne 7, 3)) none) (cond (Nat.beq pc 39) (some (.iconst 2, 1)) none)))))) (cond (Nat.ble pc 58) (cond (Nat.ble pc 48) (cond (Nat.ble pc 43) (cond (Nat.ble pc 40) (cond (Nat.beq pc 40) (some (.goto 4, 3)) none) (cond (Nat.beq pc 43) (some (.iconst 0, 1)) none)) (cond (Nat.ble pc 44) (cond (Nat.beq pc 44) (some (.putfield 80, 3)) none) (cond (Nat.ble pc 47) (cond (Nat.beq pc 47) (some (.aload_n 0, 1)) none) (cond (Nat.beq pc 48) (some (.getfield 80, 3)) none)))) (cond (Nat.ble pc 55) (cond (Nat.ble pc 51) (cond (Nat.beq pc 51) (some (.ifCond .le 5, 3)) none) (cond (Nat.ble pc 54) (cond (Nat.beq pc 54) (some (.iconst 0, 1)) none) (cond (Nat.beq pc 55) (some (.ireturn, 1)) none))) (cond (Nat.ble pc 56) (cond (Nat.beq pc 56) (some (.aload_n 0, 1)) none) (cond (Nat.ble pc 57) (cond (Nat.beq pc 57) (some (.iload_n 2, 1)) none) (cond (Nat.beq pc 58) (some (.invokevirtual 136, 3)) none))))) (cond (Nat.ble pc 67) (cond (Nat.ble pc 62) (cond (Nat.ble pc 61) (cond (Nat.beq pc 61) (some (.aload_n 0, 1)) none) (cond (Nat.beq pc 62) (some (.getfield 31, 3)) none)) (cond (Nat.ble pc 65) (cond (Nat.beq pc 65) (some (.iload_n 2, 1)) none) (cond (Nat.ble pc 66) (cond (Nat.beq pc 66) (some (.iaload, 1)) none) (cond (Nat.beq pc 67) (some (.if_icmp .ge 14, 3)) none)))) (cond (Nat.ble pc 72) (cond (Nat.ble pc 70) (cond (Nat.beq pc 70) (some (.aload_n 0, 1)) none) (cond (Nat.ble pc 71) (cond (Nat.beq pc 71) (some (.iload_n 1, 1)) none) (cond (Nat.beq pc 72) (some (.iconst 3, 1)) none))) (cond (Nat.ble pc 73) (cond (Nat.beq pc 73) (some (.irem, 1)) none) (cond (Nat.ble pc 74) (cond (Nat.beq pc 74) (some (.iload_n 2, 1)) none) (cond (Nat.beq pc 75) (some (.invokevirtual 139, 3)) none))))))) (cond (Nat.ble pc 113) (cond (Nat.ble pc 94) (cond (Nat.ble pc 86) (cond (Nat.ble pc 81) (cond (Nat.ble pc 78) (cond (Nat.beq pc 78) (some (.ifCond .ne 15, 3)) none) (cond (Nat.beq pc 81) (some (.aload_n 0, 1)) none)) (cond (Nat.ble pc 82) (cond (Nat.beq pc 82) (some (.dup, 1)) none) (cond (Nat.ble pc 83) (cond (Nat.beq pc 83) (some (.getfield 142, 3)) none) (cond (Nat.beq pc 86) (some (.iconst 1, 1)) none)))) (cond (Nat.ble pc 91) (cond (Nat.ble pc 87) (cond (Nat.beq pc 87) (some (.iadd, 1)) none) (cond (Nat.ble pc 88) (cond (Nat.beq pc 88) (some (.putfield 142, 3)) none) (cond (Nat.beq pc 91) (some (.iconst (-1), 1)) none))) (cond (Nat.ble pc 92) (cond (Nat.beq pc 92) (some (.ireturn, 1)) none) (cond (Nat.ble pc 93) (cond (Nat.beq pc 93) (some (.aload_n 0, 1)) none) (cond (Nat.beq pc 94) (some (.getfield 34, 3)) none))))) (cond (Nat.ble pc 103) (cond (Nat.ble pc 98) (cond (Nat.ble pc 97) (cond (Nat.beq pc 97) (some (.aload_n 0, 1)) none) (cond (Nat.beq pc 98) (some (.getfield 119, 3)) none)) (cond (Nat.ble pc 101) (cond (Nat.beq pc 101) (some (.iload_n 1, 1)) none) (cond (Nat.ble pc 102) (cond (Nat.beq pc 102) (some (.iastore, 1)) none) (cond (Nat.beq pc 103) (some (.aload_n 0, 1)) none)))) (cond (Nat.ble pc 108) (cond (Nat.ble pc 104) (cond (Nat.beq pc 104) (some (.getfield 37, 3)) none) (cond (Nat.ble pc 107) (cond (Nat.beq pc 107) (some (.aload_n 0, 1)) none) (cond (Nat.beq pc 108) (some (.getfield 119, 3)) none))) (cond (Nat.ble pc 111) (cond (Nat.beq pc 111) (some (.iload_n 2, 1)) none) (cond (Nat.ble pc 112) (cond (Nat.beq pc 112) (some (.iastore, 1)) none) (cond (Nat.beq pc 113) (some (.aload_n 0, 1)) none)))))) (cond (Nat.ble pc 132) (cond (Nat.ble pc 122) (cond (Nat.ble pc 117) (cond (Nat.ble pc 114) (cond (Nat.beq pc 114) (some (.getfield 40, 3)) none) (cond (Nat.beq pc 117) (some (.aload_n 0, 1)) none)) (cond (Nat.ble pc 118) (cond (Nat.beq pc 118) (some (.getfield 119, 3)) none) (cond (Nat.ble pc 121) (cond (Nat.beq pc 121) (some (.iconst 1, 1)) none) (cond (Nat.beq pc 122) (some (.bastore, 1)) none)))) (cond (Nat.ble pc 127) (cond (Nat.ble pc 123) (cond (Nat.beq pc 123) (some (.aload_n 0, 1)) none) (cond (Nat.ble pc 124) (cond (Nat.beq pc 124) (some (.getfield 44, 3)) none) (cond (Nat.beq pc 127) (some (.aload_n 0, 1)) none))) (cond (Nat.ble pc 128) (cond (Nat.beq pc 128) (some (.getfield 119, 3)) none) (cond (Nat.ble pc 131) (cond (Nat.beq pc 131) (some (.iconst (-1), 1)) none) (cond (Nat.beq pc 132) (some (.iastore, 1)) none))))) (cond (Nat.ble pc 139) (cond (Nat.ble pc 134) (cond (Nat.ble pc 133) (cond (Nat.beq pc 133) (some (.aload_n 0, 1)) none) (cond (Nat.beq pc 134) (some (.dup, 1)) none)) (cond (Nat.ble pc 135) (cond (Nat.beq pc 135) (some (.getfield 119, 3)) none) (cond (Nat.ble pc 138) (cond (Nat.beq pc 138) (some (.iconst 1, 1)) none) (cond (Nat.beq pc 139) (some (.iadd, 1)) none)))) (cond (Nat.ble pc 144) (cond (Nat.ble pc 140) (cond (Nat.beq pc 140) (some (.putfield 119, 3)) none) (cond (Nat.ble pc 143) (cond (Nat.beq pc 143) (some (.aload_n 0, 1)) none) (cond (Nat.beq pc 144) (some (.getfield 119, 3)) none))) (cond (Nat.ble pc 147) (cond (Nat.beq pc 147) (some (.iconst 1, 1)) none) (cond (Nat.ble pc 148) (cond (Nat.beq pc 148) (some (.isub, 1)) none) (cond (Nat.beq pc 149) (some (.ireturn, 1)) none))))))))
theorem tkX4_call : tkAll cX4_call tbX4_call := fun pc => (tk_b (tk_b (tk_b (tk_b (tk_b (tk_b (tk_l dX4_call_0) (tk_l dX4_call_1)) (tk_b (tk_l dX4_call_2) (tk_b (tk_l dX4_call_3) (tk_l dX4_call_4)))) (tk_b (tk_b (tk_l dX4_call_7) (tk_l dX4_call_10)) (tk_b (tk_l dX4_call_11) (tk_b (tk_l dX4_call_14) (tk_l dX4_call_17))))) (tk_b (tk_b (tk_b (tk_l dX4_call_18) (tk_l dX4_call_21)) (tk_b (tk_l dX4_call_22) (tk_b (tk_l dX4_call_23) (tk_l dX4_call_26)))) (tk_b (tk_b (tk_l dX4_call_27) (tk_b (tk_l dX4_call_30) (tk_l dX4_call_31))) (tk_b (tk_l dX4_call_34) (tk_b (tk_l dX4_call_36) (tk_l dX4_call_39)))))) (tk_b (tk_b (tk_b (tk_b (tk_l dX4_call_40) (tk_l dX4_call_43)) (tk_b (tk_l dX4_call_44) (tk_b (tk_l dX4_call_47) (tk_l dX4_call_48)))) (tk_b (tk_b (tk_l dX4_call_51) (tk_b (tk_l dX4_call_54) (tk_l dX4_call_55))) (tk_b (tk_l dX4_call_56) (tk_b (tk_l dX4_call_57) (tk_l dX4_call_58))))) (tk_b (tk_b (tk_b (tk_l dX4_call_61) (tk_l dX4_call_62)) (tk_b (tk_l dX4_call_65) (tk_b (tk_l dX4_call_66) (tk_l dX4_call_67)))) (tk_b (tk_b (tk_l dX4_call_70) (tk_b (tk_l dX4_call_71) (tk_l dX4_call_72))) (tk_b (tk_l dX4_call_73) (tk_b (tk_l dX4_call_74) (tk_l dX4_call_75))))))) (tk_b (tk_b (tk_b (tk_b (tk_b (tk_l dX4_call_78) (tk_l dX4_call_81)) (tk_b (tk_l dX4_call_82) (tk_b (tk_l dX4_call_83) (tk_l dX4_call_86)))) (tk_b (tk_b (tk_l dX4_call_87) (tk_b (tk_l dX4_call_88) (tk_l dX4_call_91))) (tk_b (tk_l dX4_call_92) (tk_b (tk_l dX4_call_93) (tk_l dX4_call_94))))) (tk_b (tk_b (tk_b (tk_l dX4_call_97) (tk_l dX4_call_98)) (tk_b (tk_l dX4_call_101) (tk_b (tk_l dX4_call_102) (tk_l dX4_call_103)))) (tk_b (tk_b (tk_l dX4_call_104) (tk_b (tk_l dX4_call_107) (tk_l dX4_call_108))) (tk_b (tk_l dX4_call_111) (tk_b (tk_l dX4_call_112) (tk_l dX4_call_113)))))) (tk_b (tk_b (tk_b (tk_b (tk_l dX4_call_114) (tk_l dX4_call_117)) (tk_b (tk_l dX4_call_118) (tk_b (tk_l dX4_call_121) (tk_l dX4_call_122)))) (tk_b (tk_b (tk_l dX4_call_123) (tk_b (tk_l dX4_call_124) (tk_l dX4_call_127))) (tk_b (tk_l dX4_call_128) (tk_b (tk_l dX4_call_131) (tk_l dX4_call_132))))) (tk_b (tk_b (tk_b (tk_l dX4_call_133) (tk_l dX4_call_134)) (tk_b (tk_l dX4_call_135) (tk_b (tk_l dX4_call_138) (tk_l dX4_call_139)))) (tk_b (tk_b (tk_l dX4_call_140) (tk_b (tk_l dX4_call_143) (tk_l dX4_call_144))) (tk_b (tk_l dX4_call_147) (tk_b (tk_l dX4_call_148) (tk_l dX4_call_149))))))))
def tbX4_callNow (pc : Nat) : Option (Instr × Nat) := (cond (Nat.ble pc 18) (cond (Nat.ble pc 5) (cond (Nat.ble pc 2) (cond (Nat.ble pc 0) (cond (Nat.beq pc 0) (some (.iconst (-1), 1)) none) (cond (Nat.ble pc 1) (cond (Nat.beq pc 1) (some (.istore_n 2, 1)) none) (cond (Nat.beq pc 2) (some (.iconst 0, 1)) none))) (cond (Nat.ble pc 3) (cond (Nat.beq pc 3) (some (.istore_n 3, 1)) none) (cond (Nat.ble pc 4) (cond (Nat.beq pc 4) (some (.iload_n 3, 1)) none) (cond (Nat.beq pc 5) (some (.aload_n 0, 1)) none)))) (cond (Nat.ble pc 12) (cond (Nat.ble pc 6) (cond (Nat.beq pc 6) (some (.getfield 119, 3)) none) (cond (Nat.ble pc 9) (cond (Nat.beq pc 9) (some (.if_icmp .ge 34, 3)) none) (cond (Nat.beq pc 12) (some (.aload_n 0, 1)) none))) (cond (Nat.ble pc 16) (cond (Nat.ble pc 13) (cond (Nat.beq pc 13) (some (.getfield 40, 3)) none) (cond (Nat.beq pc 16) (some (.iload_n 3, 1)) none)) (cond (Nat.ble pc 17) (cond (Nat.beq pc 17) (some (.baload, 1)) none) (cond (Nat.beq pc 18) (some (.ifCond .eq 17, 3)) none))))) (cond (Nat.ble pc 31) (cond (Nat.ble pc 25) (cond (Nat.ble pc 21) (cond (Nat.beq pc 21) (some (.aload_n 0, 1)) none) (cond (Nat.ble pc 22) (cond (Nat.beq pc 22) (some (.getfield 34, 3)) none) (cond (Nat.beq pc 25) (some (.iload_n 3, 1)) none))) (cond (Nat.ble pc 27) (cond (Nat.ble pc 26) (cond (Nat.beq pc 26) (some (.iaload, 1)) none) (cond (Nat.beq pc 27) (some (.iload_n 1, 1)) none)) (cond (Nat.ble pc 28) (cond (Nat.beq pc 28) (some (.if_icmp .ne 7, 3)) none) (cond (Nat.beq pc 31) (some (.iload_n 3, 1)) none)))) (cond (Nat.ble pc 36) (cond (Nat.ble pc 32) (cond (Nat.beq pc 32) (some (.goto 4, 3)) none) (cond (Nat.ble pc 35) (cond (Nat.beq pc 35) (some (.iload_n 2, 1)) none) (cond (Nat.beq pc 36) (some (.istore_n 2, 1)) none))) (cond (Nat.ble pc 40) (cond (Nat.ble pc 37) (cond (Nat.beq pc 37) (some (.iinc 3 1, 3)) none) (cond (Nat.beq pc 40) (some (.goto (-36), 3)) none)) (cond (Nat.ble pc 43) (cond (Nat.beq pc 43) (some (.iload_n 2, 1)) none) (cond (Nat.beq pc 44) (some (.ireturn, 1)) none))))))
theorem tkX4_callNow : tkAll cX4_callNow tbX4_callNow := fun pc => (tk_b (tk_b (tk_b (tk_b (tk_l dX4_callNow_0) (tk_b (tk_l dX4_callNow_1) (tk_l dX4_callNow_2))) (tk_b (tk_l dX4_callNow_3) (tk_b (tk_l dX4_callNow_4) (tk_l dX4_callNow_5)))) (tk_b (tk_b (tk_l dX4_callNow_6) (tk_b (tk_l dX4_callNow_9) (tk_l dX4_callNow_12))) (tk_b (tk_b (tk_l dX4_callNow_13) (tk_l dX4_callNow_16)) (tk_b (tk_l dX4_callNow_17) (tk_l dX4_callNow_18))))) (tk_b (tk_b (tk_b (tk_l dX4_callNow_21) (tk_b (tk_l dX4_callNow_22) (tk_l dX4_callNow_25))) (tk_b (tk_b (tk_l dX4_callNow_26) (tk_l dX4_callNow_27)) (tk_b (tk_l dX4_callNow_28) (tk_l dX4_callNow_31)))) (tk_b (tk_b (tk_l dX4_callNow_32) (tk_b (tk_l dX4_callNow_35) (tk_l dX4_callNow_36))) (tk_b (tk_b (tk_l dX4_callNow_37) (tk_l dX4_callNow_40)) (tk_b (tk_l dX4_callNow_43) (tk_l dX4_callNow_44))))))
def tbX4_callsTo (pc : Nat) : Option (Instr × Nat) := (cond (Nat.ble pc 19) (cond (Nat.ble pc 6) (cond (Nat.ble pc 2) (cond (Nat.ble pc 0) (cond (Nat.beq pc 0) (some (.iconst 0, 1)) none) (cond (Nat.ble pc 1) (cond (Nat.beq pc 1) (some (.istore_n 2, 1)) none) (cond (Nat.beq pc 2) (some (.iconst 0, 1)) none))) (cond (Nat.ble pc 4) (cond (Nat.ble pc 3) (cond (Nat.beq pc 3) (some (.istore_n 3, 1)) none) (cond (Nat.beq pc 4) (some (.iload_n 3, 1)) none)) (cond (Nat.ble pc 5) (cond (Nat.beq pc 5) (some (.aload_n 0, 1)) none) (cond (Nat.beq pc 6) (some (.getfield 119, 3)) none)))) (cond (Nat.ble pc 13) (cond (Nat.ble pc 9) (cond (Nat.beq pc 9) (some (.if_icmp .ge 36, 3)) none) (cond (Nat.ble pc 12) (cond (Nat.beq pc 12) (some (.iload_n 2, 1)) none) (cond (Nat.beq pc 13) (some (.aload_n 0, 1)) none))) (cond (Nat.ble pc 17) (cond (Nat.ble pc 14) (cond (Nat.beq pc 14) (some (.getfield 40, 3)) none) (cond (Nat.beq pc 17) (some (.iload_n 3, 1)) none)) (cond (Nat.ble pc 18) (cond (Nat.beq pc 18) (some (.baload, 1)) none) (cond (Nat.beq pc 19) (some (.ifCond .eq 17, 3)) none))))) (cond (Nat.ble pc 32) (cond (Nat.ble pc 26) (cond (Nat.ble pc 22) (cond (Nat.beq pc 22) (some (.aload_n 0, 1)) none) (cond (Nat.ble pc 23) (cond (Nat.beq pc 23) (some (.getfield 37, 3)) none) (cond (Nat.beq pc 26) (some (.iload_n 3, 1)) none))) (cond (Nat.ble pc 28) (cond (Nat.ble pc 27) (cond (Nat.beq pc 27) (some (.iaload, 1)) none) (cond (Nat.beq pc 28) (some (.iload_n 1, 1)) none)) (cond (Nat.ble pc 29) (cond (Nat.beq pc 29) (some (.if_icmp .ne 7, 3)) none) (cond (Nat.beq pc 32) (some (.iconst 1, 1)) none)))) (cond (Nat.ble pc 38) (cond (Nat.ble pc 36) (cond (Nat.ble pc 33) (cond (Nat.beq pc 33) (some (.goto 4, 3)) none) (cond (Nat.beq pc 36) (some (.iconst 0, 1)) none)) (cond (Nat.ble pc 37) (cond (Nat.beq pc 37) (some (.iadd, 1)) none) (cond (Nat.beq pc 38) (some (.istore_n 2, 1)) none))) (cond (Nat.ble pc 42) (cond (Nat.ble pc 39) (cond (Nat.beq pc 39) (some (.iinc 3 1, 3)) none) (cond (Nat.beq pc 42) (some (.goto (-38), 3)) none)) (cond (Nat.ble pc 45) (cond (Nat.beq pc 45) (some (.iload_n 2, 1)) none) (cond (Nat.beq pc 46) (some (.ireturn, 1)) none))))))
theorem tkX4_callsTo : tkAll cX4_callsTo tbX4_callsTo := fun pc => (tk_b (tk_b (tk_b (tk_b (tk_l dX4_callsTo_0) (tk_b (tk_l dX4_callsTo_1) (tk_l dX4_callsTo_2))) (tk_b (tk_b (tk_l dX4_callsTo_3) (tk_l dX4_callsTo_4)) (tk_b (tk_l dX4_callsTo_5) (tk_l dX4_callsTo_6)))) (tk_b (tk_b (tk_l dX4_callsTo_9) (tk_b (tk_l dX4_callsTo_12) (tk_l dX4_callsTo_13))) (tk_b (tk_b (tk_l dX4_callsTo_14) (tk_l dX4_callsTo_17)) (tk_b (tk_l dX4_callsTo_18) (tk_l dX4_callsTo_19))))) (tk_b (tk_b (tk_b (tk_l dX4_callsTo_22) (tk_b (tk_l dX4_callsTo_23) (tk_l dX4_callsTo_26))) (tk_b (tk_b (tk_l dX4_callsTo_27) (tk_l dX4_callsTo_28)) (tk_b (tk_l dX4_callsTo_29) (tk_l dX4_callsTo_32)))) (tk_b (tk_b (tk_b (tk_l dX4_callsTo_33) (tk_l dX4_callsTo_36)) (tk_b (tk_l dX4_callsTo_37) (tk_l dX4_callsTo_38))) (tk_b (tk_b (tk_l dX4_callsTo_39) (tk_l dX4_callsTo_42)) (tk_b (tk_l dX4_callsTo_45) (tk_l dX4_callsTo_46))))))
def tbX4_takesWay (pc : Nat) : Option (Instr × Nat) := (cond (Nat.ble pc 41) (cond (Nat.ble pc 17) (cond (Nat.ble pc 8) (cond (Nat.ble pc 2) (cond (Nat.ble pc 0) (cond (Nat.beq pc 0) (some (.iload_n 1, 1)) none) (cond (Nat.ble pc 1) (cond (Nat.beq pc 1) (some (.iload_n 2, 1)) none) (cond (Nat.beq pc 2) (some (.if_icmp .ne 5, 3)) none))) (cond (Nat.ble pc 6) (cond (Nat.ble pc 5) (cond (Nat.beq pc 5) (some (.iconst 1, 1)) none) (cond (Nat.beq pc 6) (some (.ireturn, 1)) none)) (cond (Nat.ble pc 7) (cond (Nat.beq pc 7) (some (.aload_n 0, 1)) none) (cond (Nat.beq pc 8) (some (.iload_n 1, 1)) none)))) (cond (Nat.ble pc 13) (cond (Nat.ble pc 9) (cond (Nat.beq pc 9) (some (.iload_n 2, 1)) none) (cond (Nat.ble pc 10) (cond (Nat.beq pc 10) (some (.invokevirtual 129, 3)) none) (cond (Nat.beq pc 13) (some (.istore_n 3, 1)) none))) (cond (Nat.ble pc 15) (cond (Nat.ble pc 14) (cond (Nat.beq pc 14) (some (.iconst 3, 1)) none) (cond (Nat.beq pc 15) (some (.iload_n 1, 1)) none)) (cond (Nat.ble pc 16) (cond (Nat.beq pc 16) (some (.isub, 1)) none) (cond (Nat.beq pc 17) (some (.iload_n 2, 1)) none))))) (cond (Nat.ble pc 28) (cond (Nat.ble pc 21) (cond (Nat.ble pc 18) (cond (Nat.beq pc 18) (some (.isub, 1)) none) (cond (Nat.ble pc 19) (cond (Nat.beq pc 19) (some (.istore 4, 2)) none) (cond (Nat.beq pc 21) (some (.aload_n 0, 1)) none))) (cond (Nat.ble pc 23) (cond (Nat.ble pc 22) (cond (Nat.beq pc 22) (some (.iload_n 1, 1)) none) (cond (Nat.beq pc 23) (some (.iload 4, 2)) none)) (cond (Nat.ble pc 25) (cond (Nat.beq pc 25) (some (.invokevirtual 129, 3)) none) (cond (Nat.beq pc 28) (some (.istore 5, 2)) none)))) (cond (Nat.ble pc 34) (cond (Nat.ble pc 31) (cond (Nat.ble pc 30) (cond (Nat.beq pc 30) (some (.aload_n 0, 1)) none) (cond (Nat.beq pc 31) (some (.iload 4, 2)) none)) (cond (Nat.ble pc 33) (cond (Nat.beq pc 33) (some (.iload_n 2, 1)) none) (cond (Nat.beq pc 34) (some (.invokevirtual 129, 3)) none))) (cond (Nat.ble pc 39) (cond (Nat.ble pc 37) (cond (Nat.beq pc 37) (some (.istore 6, 2)) none) (cond (Nat.beq pc 39) (some (.iload_n 3, 1)) none)) (cond (Nat.ble pc 40) (cond (Nat.beq pc 40) (some (.iconst (-1), 1)) none) (cond (Nat.beq pc 41) (some (.if_icmp .eq 15, 3)) none)))))) (cond (Nat.ble pc 68) (cond (Nat.ble pc 54) (cond (Nat.ble pc 48) (cond (Nat.ble pc 44) (cond (Nat.beq pc 44) (some (.aload_n 0, 1)) none) (cond (Nat.ble pc 45) (cond (Nat.beq pc 45) (some (.getfield 28, 3)) none) (cond (Nat.beq pc 48) (some (.iload_n 3, 1)) none))) (cond (Nat.ble pc 50) (cond (Nat.ble pc 49) (cond (Nat.beq pc 49) (some (.aload_n 0, 1)) none) (cond (Nat.beq pc 50) (some (.getfield 119, 3)) none)) (cond (Nat.ble pc 53) (cond (Nat.beq pc 53) (some (.iastore, 1)) none) (cond (Nat.beq pc 54) (some (.iconst 1, 1)) none)))) (cond (Nat.ble pc 59) (cond (Nat.ble pc 56) (cond (Nat.ble pc 55) (cond (Nat.beq pc 55) (some (.ireturn, 1)) none) (cond (Nat.beq pc 56) (some (.iload 5, 2)) none)) (cond (Nat.ble pc 58) (cond (Nat.beq pc 58) (some (.iconst (-1), 1)) none) (cond (Nat.beq pc 59) (some (.if_icmp .eq 9, 3)) none))) (cond (Nat.ble pc 64) (cond (Nat.ble pc 62) (cond (Nat.beq pc 62) (some (.iload 6, 2)) none) (cond (Nat.beq pc 64) (some (.iconst (-1), 1)) none)) (cond (Nat.ble pc 65) (cond (Nat.beq pc 65) (some (.if_icmp .ne 5, 3)) none) (cond (Nat.beq pc 68) (some (.iconst 0, 1)) none))))) (cond (Nat.ble pc 80) (cond (Nat.ble pc 71) (cond (Nat.ble pc 69) (cond (Nat.beq pc 69) (some (.ireturn, 1)) none) (cond (Nat.ble pc 70) (cond (Nat.beq pc 70) (some (.aload_n 0, 1)) none) (cond (Nat.beq pc 71) (some (.getfield 28, 3)) none))) (cond (Nat.ble pc 76) (cond (Nat.ble pc 74) (cond (Nat.beq pc 74) (some (.iload 5, 2)) none) (cond (Nat.beq pc 76) (some (.aload_n 0, 1)) none)) (cond (Nat.ble pc 77) (cond (Nat.beq pc 77) (some (.getfield 119, 3)) none) (cond (Nat.beq pc 80) (some (.iastore, 1)) none)))) (cond (Nat.ble pc 87) (cond (Nat.ble pc 82) (cond (Nat.ble pc 81) (cond (Nat.beq pc 81) (some (.aload_n 0, 1)) none) (cond (Nat.beq pc 82) (some (.getfield 28, 3)) none)) (cond (Nat.ble pc 85) (cond (Nat.beq pc 85) (some (.iload 6, 2)) none) (cond (Nat.beq pc 87) (some (.aload_n 0, 1)) none))) (cond (Nat.ble pc 91) (cond (Nat.ble pc 88) (cond (Nat.beq pc 88) (some (.getfield 119, 3)) none) (cond (Nat.beq pc 91) (some (.iastore, 1)) none)) (cond (Nat.ble pc 92) (cond (Nat.beq pc 92) (some (.iconst 1, 1)) none) (cond (Nat.beq pc 93) (some (.ireturn, 1)) none)))))))
theorem tkX4_takesWay : tkAll cX4_takesWay tbX4_takesWay := fun pc => (tk_b (tk_b (tk_b (tk_b (tk_b (tk_l dX4_takesWay_0) (tk_b (tk_l dX4_takesWay_1) (tk_l dX4_takesWay_2))) (tk_b (tk_b (tk_l dX4_takesWay_5) (tk_l dX4_takesWay_6)) (tk_b (tk_l dX4_takesWay_7) (tk_l dX4_takesWay_8)))) (tk_b (tk_b (tk_l dX4_takesWay_9) (tk_b (tk_l dX4_takesWay_10) (tk_l dX4_takesWay_13))) (tk_b (tk_b (tk_l dX4_takesWay_14) (tk_l dX4_takesWay_15)) (tk_b (tk_l dX4_takesWay_16) (tk_l dX4_takesWay_17))))) (tk_b (tk_b (tk_b (tk_l dX4_takesWay_18) (tk_b (tk_l dX4_takesWay_19) (tk_l dX4_takesWay_21))) (tk_b (tk_b (tk_l dX4_takesWay_22) (tk_l dX4_takesWay_23)) (tk_b (tk_l dX4_takesWay_25) (tk_l dX4_takesWay_28)))) (tk_b (tk_b (tk_b (tk_l dX4_takesWay_30) (tk_l dX4_takesWay_31)) (tk_b (tk_l dX4_takesWay_33) (tk_l dX4_takesWay_34))) (tk_b (tk_b (tk_l dX4_takesWay_37) (tk_l dX4_takesWay_39)) (tk_b (tk_l dX4_takesWay_40) (tk_l dX4_takesWay_41)))))) (tk_b (tk_b (tk_b (tk_b (tk_l dX4_takesWay_44) (tk_b (tk_l dX4_takesWay_45) (tk_l dX4_takesWay_48))) (tk_b (tk_b (tk_l dX4_takesWay_49) (tk_l dX4_takesWay_50)) (tk_b (tk_l dX4_takesWay_53) (tk_l dX4_takesWay_54)))) (tk_b (tk_b (tk_b (tk_l dX4_takesWay_55) (tk_l dX4_takesWay_56)) (tk_b (tk_l dX4_takesWay_58) (tk_l dX4_takesWay_59))) (tk_b (tk_b (tk_l dX4_takesWay_62) (tk_l dX4_takesWay_64)) (tk_b (tk_l dX4_takesWay_65) (tk_l dX4_takesWay_68))))) (tk_b (tk_b (tk_b (tk_l dX4_takesWay_69) (tk_b (tk_l dX4_takesWay_70) (tk_l dX4_takesWay_71))) (tk_b (tk_b (tk_l dX4_takesWay_74) (tk_l dX4_takesWay_76)) (tk_b (tk_l dX4_takesWay_77) (tk_l dX4_takesWay_80)))) (tk_b (tk_b (tk_b (tk_l dX4_takesWay_81) (tk_l dX4_takesWay_82)) (tk_b (tk_l dX4_takesWay_85) (tk_l dX4_takesWay_87))) (tk_b (tk_b (tk_l dX4_takesWay_88) (tk_l dX4_takesWay_91)) (tk_b (tk_l dX4_takesWay_92) (tk_l dX4_takesWay_93)))))))
def tbX4_freeBetween (pc : Nat) : Option (Instr × Nat) := (cond (Nat.ble pc 20) (cond (Nat.ble pc 7) (cond (Nat.ble pc 2) (cond (Nat.ble pc 0) (cond (Nat.beq pc 0) (some (.iload_n 1, 1)) none) (cond (Nat.ble pc 1) (cond (Nat.beq pc 1) (some (.iload_n 2, 1)) none) (cond (Nat.beq pc 2) (some (.invokestatic 125, 3)) none))) (cond (Nat.ble pc 5) (cond (Nat.beq pc 5) (some (.istore_n 3, 1)) none) (cond (Nat.ble pc 6) (cond (Nat.beq pc 6) (some (.aload_n 0, 1)) none) (cond (Nat.beq pc 7) (some (.getfield 28, 3)) none)))) (cond (Nat.ble pc 12) (cond (Nat.ble pc 10) (cond (Nat.beq pc 10) (some (.iload_n 3, 1)) none) (cond (Nat.ble pc 11) (cond (Nat.beq pc 11) (some (.iaload, 1)) none) (cond (Nat.beq pc 12) (some (.iconst (-1), 1)) none))) (cond (Nat.ble pc 16) (cond (Nat.ble pc 13) (cond (Nat.beq pc 13) (some (.if_icmp .ne 7, 3)) none) (cond (Nat.beq pc 16) (some (.iload_n 3, 1)) none)) (cond (Nat.ble pc 17) (cond (Nat.beq pc 17) (some (.goto 22, 3)) none) (cond (Nat.beq pc 20) (some (.aload_n 0, 1)) none))))) (cond (Nat.ble pc 28) (cond (Nat.ble pc 25) (cond (Nat.ble pc 21) (cond (Nat.beq pc 21) (some (.getfield 28, 3)) none) (cond (Nat.ble pc 24) (cond (Nat.beq pc 24) (some (.iload_n 3, 1)) none) (cond (Nat.beq pc 25) (some (.iconst 1, 1)) none))) (cond (Nat.ble pc 26) (cond (Nat.beq pc 26) (some (.iadd, 1)) none) (cond (Nat.ble pc 27) (cond (Nat.beq pc 27) (some (.iaload, 1)) none) (cond (Nat.beq pc 28) (some (.iconst (-1), 1)) none)))) (cond (Nat.ble pc 33) (cond (Nat.ble pc 29) (cond (Nat.beq pc 29) (some (.if_icmp .ne 9, 3)) none) (cond (Nat.ble pc 32) (cond (Nat.beq pc 32) (some (.iload_n 3, 1)) none) (cond (Nat.beq pc 33) (some (.iconst 1, 1)) none))) (cond (Nat.ble pc 35) (cond (Nat.ble pc 34) (cond (Nat.beq pc 34) (some (.iadd, 1)) none) (cond (Nat.beq pc 35) (some (.goto 4, 3)) none)) (cond (Nat.ble pc 38) (cond (Nat.beq pc 38) (some (.iconst (-1), 1)) none) (cond (Nat.beq pc 39) (some (.ireturn, 1)) none))))))
theorem tkX4_freeBetween : tkAll cX4_freeBetween tbX4_freeBetween := fun pc => (tk_b (tk_b (tk_b (tk_b (tk_l dX4_freeBetween_0) (tk_b (tk_l dX4_freeBetween_1) (tk_l dX4_freeBetween_2))) (tk_b (tk_l dX4_freeBetween_5) (tk_b (tk_l dX4_freeBetween_6) (tk_l dX4_freeBetween_7)))) (tk_b (tk_b (tk_l dX4_freeBetween_10) (tk_b (tk_l dX4_freeBetween_11) (tk_l dX4_freeBetween_12))) (tk_b (tk_b (tk_l dX4_freeBetween_13) (tk_l dX4_freeBetween_16)) (tk_b (tk_l dX4_freeBetween_17) (tk_l dX4_freeBetween_20))))) (tk_b (tk_b (tk_b (tk_l dX4_freeBetween_21) (tk_b (tk_l dX4_freeBetween_24) (tk_l dX4_freeBetween_25))) (tk_b (tk_l dX4_freeBetween_26) (tk_b (tk_l dX4_freeBetween_27) (tk_l dX4_freeBetween_28)))) (tk_b (tk_b (tk_l dX4_freeBetween_29) (tk_b (tk_l dX4_freeBetween_32) (tk_l dX4_freeBetween_33))) (tk_b (tk_b (tk_l dX4_freeBetween_34) (tk_l dX4_freeBetween_35)) (tk_b (tk_l dX4_freeBetween_38) (tk_l dX4_freeBetween_39))))))
def tbX4_between (pc : Nat) : Option (Instr × Nat) := (cond (Nat.ble pc 3) (cond (Nat.ble pc 1) (cond (Nat.ble pc 0) (cond (Nat.beq pc 0) (some (.iconst 2, 1)) none) (cond (Nat.beq pc 1) (some (.iload_n 0, 1)) none)) (cond (Nat.ble pc 2) (cond (Nat.beq pc 2) (some (.iload_n 1, 1)) none) (cond (Nat.beq pc 3) (some (.iadd, 1)) none))) (cond (Nat.ble pc 5) (cond (Nat.ble pc 4) (cond (Nat.beq pc 4) (some (.iconst 1, 1)) none) (cond (Nat.beq pc 5) (some (.isub, 1)) none)) (cond (Nat.ble pc 6) (cond (Nat.beq pc 6) (some (.imul, 1)) none) (cond (Nat.beq pc 7) (some (.ireturn, 1)) none))))
theorem tkX4_between : tkAll cX4_between tbX4_between := fun pc => (tk_b (tk_b (tk_b (tk_l dX4_between_0) (tk_l dX4_between_1)) (tk_b (tk_l dX4_between_2) (tk_l dX4_between_3))) (tk_b (tk_b (tk_l dX4_between_4) (tk_l dX4_between_5)) (tk_b (tk_l dX4_between_6) (tk_l dX4_between_7))))
def tbX4_ask (pc : Nat) : Option (Instr × Nat) := (cond (Nat.ble pc 126) (cond (Nat.ble pc 67) (cond (Nat.ble pc 30) (cond (Nat.ble pc 13) (cond (Nat.ble pc 3) (cond (Nat.ble pc 1) (cond (Nat.ble pc 0) (cond (Nat.beq pc 0) (some (.aload_n 0, 1)) none) (cond (Nat.beq pc 1) (some (.aload_n 0, 1)) none)) (cond (Nat.ble pc 2) (cond (Nat.beq pc 2) (some (.iload_n 1, 1)) none) (cond (Nat.beq pc 3) (some (.invokevirtual 148, 3)) none))) (cond (Nat.ble pc 9) (cond (Nat.ble pc 6) (cond (Nat.beq pc 6) (some (.ifCond .ne 7, 3)) none) (cond (Nat.beq pc 9) (some (.iconst 1, 1)) none)) (cond (Nat.ble pc 10) (cond (Nat.beq pc 10) (some (.goto 28, 3)) none) (cond (Nat.beq pc 13) (some (.iload_n 2, 1)) none)))) (cond (Nat.ble pc 21) (cond (Nat.ble pc 17) (cond (Nat.ble pc 14) (cond (Nat.beq pc 14) (some (.invokestatic 103, 3)) none) (cond (Nat.beq pc 17) (some (.ifCond .ne 7, 3)) none)) (cond (Nat.ble pc 20) (cond (Nat.beq pc 20) (some (.iconst 2, 1)) none) (cond (Nat.beq pc 21) (some (.goto 17, 3)) none))) (cond (Nat.ble pc 25) (cond (Nat.ble pc 24) (cond (Nat.beq pc 24) (some (.aload_n 0, 1)) none) (cond (Nat.beq pc 25) (some (.getfield 40, 3)) none)) (cond (Nat.ble pc 28) (cond (Nat.beq pc 28) (some (.iload_n 1, 1)) none) (cond (Nat.ble pc 29) (cond (Nat.beq pc 29) (some (.baload, 1)) none) (cond (Nat.beq pc 30) (some (.ifCond .ne 7, 3)) none)))))) (cond (Nat.ble pc 49) (cond (Nat.ble pc 38) (cond (Nat.ble pc 34) (cond (Nat.ble pc 33) (cond (Nat.beq pc 33) (some (.iconst 3, 1)) none) (cond (Nat.beq pc 34) (some (.goto 4, 3)) none)) (cond (Nat.ble pc 37) (cond (Nat.beq pc 37) (some (.iconst 0, 1)) none) (cond (Nat.beq pc 38) (some (.putfield 80, 3)) none))) (cond (Nat.ble pc 42) (cond (Nat.ble pc 41) (cond (Nat.beq pc 41) (some (.aload_n 0, 1)) none) (cond (Nat.beq pc 42) (some (.getfield 80, 3)) none)) (cond (Nat.ble pc 45) (cond (Nat.beq pc 45) (some (.ifCond .ne 64, 3)) none) (cond (Nat.ble pc 48) (cond (Nat.beq pc 48) (some (.aload_n 0, 1)) none) (cond (Nat.beq pc 49) (some (.getfield 44, 3)) none))))) (cond (Nat.ble pc 55) (cond (Nat.ble pc 53) (cond (Nat.ble pc 52) (cond (Nat.beq pc 52) (some (.iload_n 1, 1)) none) (cond (Nat.beq pc 53) (some (.iaload, 1)) none)) (cond (Nat.ble pc 54) (cond (Nat.beq pc 54) (some (.iconst (-1), 1)) none) (cond (Nat.beq pc 55) (some (.if_icmp .ne 20, 3)) none))) (cond (Nat.ble pc 59) (cond (Nat.ble pc 58) (cond (Nat.beq pc 58) (some (.aload_n 0, 1)) none) (cond (Nat.beq pc 59) (some (.getfield 122, 3)) none)) (cond (Nat.ble pc 62) (cond (Nat.beq pc 62) (some (.bipush 40, 2)) none) (cond (Nat.ble pc 64) (cond (Nat.beq pc 64) (some (.if_icmp .ge 7, 3)) none) (cond (Nat.beq pc 67) (some (.iconst 1, 1)) none))))))) (cond (Nat.ble pc 96) (cond (Nat.ble pc 83) (cond (Nat.ble pc 75) (cond (Nat.ble pc 71) (cond (Nat.ble pc 68) (cond (Nat.beq pc 68) (some (.goto 27, 3)) none) (cond (Nat.beq pc 71) (some (.iconst 0, 1)) none)) (cond (Nat.ble pc 72) (cond (Nat.beq pc 72) (some (.goto 23, 3)) none) (cond (Nat.beq pc 75) (some (.aload_n 0, 1)) none))) (cond (Nat.ble pc 79) (cond (Nat.ble pc 76) (cond (Nat.beq pc 76) (some (.getfield 50, 3)) none) (cond (Nat.beq pc 79) (some (.aload_n 0, 1)) none)) (cond (Nat.ble pc 80) (cond (Nat.beq pc 80) (some (.getfield 44, 3)) none) (cond (Nat.beq pc 83) (some (.iload_n 1, 1)) none)))) (cond (Nat.ble pc 87) (cond (Nat.ble pc 85) (cond (Nat.ble pc 84) (cond (Nat.beq pc 84) (some (.iaload, 1)) none) (cond (Nat.beq pc 85) (some (.iaload, 1)) none)) (cond (Nat.ble pc 86) (cond (Nat.beq pc 86) (some (.iload_n 2, 1)) none) (cond (Nat.beq pc 87) (some (.if_icmp .ne 7, 3)) none))) (cond (Nat.ble pc 91) (cond (Nat.ble pc 90) (cond (Nat.beq pc 90) (some (.iconst 1, 1)) none) (cond (Nat.beq pc 91) (some (.goto 4, 3)) none)) (cond (Nat.ble pc 94) (cond (Nat.beq pc 94) (some (.iconst 0, 1)) none) (cond (Nat.ble pc 95) (cond (Nat.beq pc 95) (some (.istore_n 3, 1)) none) (cond (Nat.beq pc 96) (some (.aload_n 0, 1)) none)))))) (cond (Nat.ble pc 113) (cond (Nat.ble pc 102) (cond (Nat.ble pc 98) (cond (Nat.ble pc 97) (cond (Nat.beq pc 97) (some (.iload_n 3, 1)) none) (cond (Nat.beq pc 98) (some (.ifCond .eq 7, 3)) none)) (cond (Nat.ble pc 101) (cond (Nat.beq pc 101) (some (.iconst 0, 1)) none) (cond (Nat.beq pc 102) (some (.goto 4, 3)) none))) (cond (Nat.ble pc 106) (cond (Nat.ble pc 105) (cond (Nat.beq pc 105) (some (.iconst 3, 1)) none) (cond (Nat.beq pc 106) (some (.putfield 80, 3)) none)) (cond (Nat.ble pc 109) (cond (Nat.beq pc 109) (some (.aload_n 0, 1)) none) (cond (Nat.ble pc 110) (cond (Nat.beq pc 110) (some (.getfield 80, 3)) none) (cond (Nat.beq pc 113) (some (.ifCond .le 5, 3)) none))))) (cond (Nat.ble pc 119) (cond (Nat.ble pc 117) (cond (Nat.ble pc 116) (cond (Nat.beq pc 116) (some (.iconst 0, 1)) none) (cond (Nat.beq pc 117) (some (.ireturn, 1)) none)) (cond (Nat.ble pc 118) (cond (Nat.beq pc 118) (some (.aload_n 0, 1)) none) (cond (Nat.beq pc 119) (some (.aload_n 0, 1)) none))) (cond (Nat.ble pc 123) (cond (Nat.ble pc 120) (cond (Nat.beq pc 120) (some (.getfield 37, 3)) none) (cond (Nat.beq pc 123) (some (.iload_n 1, 1)) none)) (cond (Nat.ble pc 124) (cond (Nat.beq pc 124) (some (.iaload, 1)) none) (cond (Nat.ble pc 125) (cond (Nat.beq pc 125) (some (.iload_n 2, 1)) none) (cond (Nat.beq pc 126) (some (.invokevirtual 151, 3)) none)))))))) (cond (Nat.ble pc 185) (cond (Nat.ble pc 155) (cond (Nat.ble pc 140) (cond (Nat.ble pc 132) (cond (Nat.ble pc 130) (cond (Nat.ble pc 129) (cond (Nat.beq pc 129) (some (.istore_n 3, 1)) none) (cond (Nat.beq pc 130) (some (.iload_n 3, 1)) none)) (cond (Nat.ble pc 131) (cond (Nat.beq pc 131) (some (.iconst (-1), 1)) none) (cond (Nat.beq pc 132) (some (.if_icmp .eq 93, 3)) none))) (cond (Nat.ble pc 136) (cond (Nat.ble pc 135) (cond (Nat.beq pc 135) (some (.aload_n 0, 1)) none) (cond (Nat.beq pc 136) (some (.getfield 44, 3)) none)) (cond (Nat.ble pc 139) (cond (Nat.beq pc 139) (some (.iload_n 1, 1)) none) (cond (Nat.beq pc 140) (some (.iaload, 1)) none)))) (cond (Nat.ble pc 146) (cond (Nat.ble pc 142) (cond (Nat.ble pc 141) (cond (Nat.beq pc 141) (some (.iconst (-1), 1)) none) (cond (Nat.beq pc 142) (some (.if_icmp .ne 83, 3)) none)) (cond (Nat.ble pc 145) (cond (Nat.beq pc 145) (some (.aload_n 0, 1)) none) (cond (Nat.beq pc 146) (some (.getfield 47, 3)) none))) (cond (Nat.ble pc 150) (cond (Nat.ble pc 149) (cond (Nat.beq pc 149) (some (.aload_n 0, 1)) none) (cond (Nat.beq pc 150) (some (.getfield 122, 3)) none)) (cond (Nat.ble pc 153) (cond (Nat.beq pc 153) (some (.iconst 0, 1)) none) (cond (Nat.ble pc 154) (cond (Nat.beq pc 154) (some (.iastore, 1)) none) (cond (Nat.beq pc 155) (some (.aload_n 0, 1)) none)))))) (cond (Nat.ble pc 170) (cond (Nat.ble pc 163) (cond (Nat.ble pc 159) (cond (Nat.ble pc 156) (cond (Nat.beq pc 156) (some (.getfield 50, 3)) none) (cond (Nat.beq pc 159) (some (.aload_n 0, 1)) none)) (cond (Nat.ble pc 160) (cond (Nat.beq pc 160) (some (.getfield 122, 3)) none) (cond (Nat.beq pc 163) (some (.iload_n 2, 1)) none))) (cond (Nat.ble pc 165) (cond (Nat.ble pc 164) (cond (Nat.beq pc 164) (some (.iastore, 1)) none) (cond (Nat.beq pc 165) (some (.aload_n 0, 1)) none)) (cond (Nat.ble pc 166) (cond (Nat.beq pc 166) (some (.getfield 53, 3)) none) (cond (Nat.ble pc 169) (cond (Nat.beq pc 169) (some (.aload_n 0, 1)) none) (cond (Nat.beq pc 170) (some (.getfield 122, 3)) none))))) (cond (Nat.ble pc 178) (cond (Nat.ble pc 174) (cond (Nat.ble pc 173) (cond (Nat.beq pc 173) (some (.aload_n 0, 1)) none) (cond (Nat.beq pc 174) (some (.getfield 34, 3)) none)) (cond (Nat.ble pc 177) (cond (Nat.beq pc 177) (some (.iload_n 1, 1)) none) (cond (Nat.beq pc 178) (some (.iaload, 1)) none))) (cond (Nat.ble pc 180) (cond (Nat.ble pc 179) (cond (Nat.beq pc 179) (some (.iastore, 1)) none) (cond (Nat.beq pc 180) (some (.aload_n 0, 1)) none)) (cond (Nat.ble pc 181) (cond (Nat.beq pc 181) (some (.getfield 56, 3)) none) (cond (Nat.ble pc 184) (cond (Nat.beq pc 184) (some (.aload_n 0, 1)) none) (cond (Nat.beq pc 185) (some (.getfield 122, 3)) none))))))) (cond (Nat.ble pc 214) (cond (Nat.ble pc 199) (cond (Nat.ble pc 193) (cond (Nat.ble pc 189) (cond (Nat.ble pc 188) (cond (Nat.beq pc 188) (some (.aload_n 0, 1)) none) (cond (Nat.beq pc 189) (some (.getfield 37, 3)) none)) (cond (Nat.ble pc 192) (cond (Nat.beq pc 192) (some (.iload_n 1, 1)) none) (cond (Nat.beq pc 193) (some (.iaload, 1)) none))) (cond (Nat.ble pc 195) (cond (Nat.ble pc 194) (cond (Nat.beq pc 194) (some (.iastore, 1)) none) (cond (Nat.beq pc 195) (some (.aload_n 0, 1)) none)) (cond (Nat.ble pc 196) (cond (Nat.beq pc 196) (some (.getfield 62, 3)) none) (cond (Nat.beq pc 199) (some (.aload_n 0, 1)) none)))) (cond (Nat.ble pc 205) (cond (Nat.ble pc 203) (cond (Nat.ble pc 200) (cond (Nat.beq pc 200) (some (.getfield 122, 3)) none) (cond (Nat.beq pc 203) (some (.iconst 0, 1)) none)) (cond (Nat.ble pc 204) (cond (Nat.beq pc 204) (some (.iastore, 1)) none) (cond (Nat.beq pc 205) (some (.aload_n 0, 1)) none))) (cond (Nat.ble pc 209) (cond (Nat.ble pc 206) (cond (Nat.beq pc 206) (some (.getfield 44, 3)) none) (cond (Nat.beq pc 209) (some (.iload_n 1, 1)) none)) (cond (Nat.ble pc 210) (cond (Nat.beq pc 210) (some (.aload_n 0, 1)) none) (cond (Nat.ble pc 211) (cond (Nat.beq pc 211) (some (.getfield 122, 3)) none) (cond (Nat.beq pc 214) (some (.iastore, 1)) none)))))) (cond (Nat.ble pc 227) (cond (Nat.ble pc 220) (cond (Nat.ble pc 216) (cond (Nat.ble pc 215) (cond (Nat.beq pc 215) (some (.aload_n 0, 1)) none) (cond (Nat.beq pc 216) (some (.dup, 1)) none)) (cond (Nat.ble pc 217) (cond (Nat.beq pc 217) (some (.getfield 122, 3)) none) (cond (Nat.beq pc 220) (some (.iconst 1, 1)) none))) (cond (Nat.ble pc 222) (cond (Nat.ble pc 221) (cond (Nat.beq pc 221) (some (.iadd, 1)) none) (cond (Nat.beq pc 222) (some (.putfield 122, 3)) none)) (cond (Nat.ble pc 225) (cond (Nat.beq pc 225) (some (.iload_n 3, 1)) none) (cond (Nat.ble pc 226) (cond (Nat.beq pc 226) (some (.iconst (-1), 1)) none) (cond (Nat.beq pc 227) (some (.if_icmp .eq 14, 3)) none))))) (cond (Nat.ble pc 235) (cond (Nat.ble pc 231) (cond (Nat.ble pc 230) (cond (Nat.beq pc 230) (some (.aload_n 0, 1)) none) (cond (Nat.beq pc 231) (some (.aload_n 0, 1)) none)) (cond (Nat.ble pc 232) (cond (Nat.beq pc 232) (some (.getfield 44, 3)) none) (cond (Nat.beq pc 235) (some (.iload_n 1, 1)) none))) (cond (Nat.ble pc 237) (cond (Nat.ble pc 236) (cond (Nat.beq pc 236) (some (.iaload, 1)) none) (cond (Nat.beq pc 237) (some (.iload_n 3, 1)) none)) (cond (Nat.ble pc 238) (cond (Nat.beq pc 238) (some (.invokevirtual 154, 3)) none) (cond (Nat.ble pc 241) (cond (Nat.beq pc 241) (some (.iload_n 3, 1)) none) (cond (Nat.beq pc 242) (some (.ireturn, 1)) none)))))))))
theorem tkX4_ask : tkAll cX4_ask tbX4_ask := fun pc => (tk_b (tk_b (tk_b (tk_b (tk_b (tk_b (tk_b (tk_l dX4_ask_0) (tk_l dX4_ask_1)) (tk_b (tk_l dX4_ask_2) (tk_l dX4_ask_3))) (tk_b (tk_b (tk_l dX4_ask_6) (tk_l dX4_ask_9)) (tk_b (tk_l dX4_ask_10) (tk_l dX4_ask_13)))) (tk_b (tk_b (tk_b (tk_l dX4_ask_14) (tk_l dX4_ask_17)) (tk_b (tk_l dX4_ask_20) (tk_l dX4_ask_21))) (tk_b (tk_b (tk_l dX4_ask_24) (tk_l dX4_ask_25)) (tk_b (tk_l dX4_ask_28) (tk_b (tk_l dX4_ask_29) (tk_l dX4_ask_30)))))) (tk_b (tk_b (tk_b (tk_b (tk_l dX4_ask_33) (tk_l dX4_ask_34)) (tk_b (tk_l dX4_ask_37) (tk_l dX4_ask_38))) (tk_b (tk_b (tk_l dX4_ask_41) (tk_l dX4_ask_42)) (tk_b (tk_l dX4_ask_45) (tk_b (tk_l dX4_ask_48) (tk_l dX4_ask_49))))) (tk_b (tk_b (tk_b (tk_l dX4_ask_52) (tk_l dX4_ask_53)) (tk_b (tk_l dX4_ask_54) (tk_l dX4_ask_55))) (tk_b (tk_b (tk_l dX4_ask_58) (tk_l dX4_ask_59)) (tk_b (tk_l dX4_ask_62) (tk_b (tk_l dX4_ask_64) (tk_l dX4_ask_67))))))) (tk_b (tk_b (tk_b (tk_b (tk_b (tk_l dX4_ask_68) (tk_l dX4_ask_71)) (tk_b (tk_l dX4_ask_72) (tk_l dX4_ask_75))) (tk_b (tk_b (tk_l dX4_ask_76) (tk_l dX4_ask_79)) (tk_b (tk_l dX4_ask_80) (tk_l dX4_ask_83)))) (tk_b (tk_b (tk_b (tk_l dX4_ask_84) (tk_l dX4_ask_85)) (tk_b (tk_l dX4_ask_86) (tk_l dX4_ask_87))) (tk_b (tk_b (tk_l dX4_ask_90) (tk_l dX4_ask_91)) (tk_b (tk_l dX4_ask_94) (tk_b (tk_l dX4_ask_95) (tk_l dX4_ask_96)))))) (tk_b (tk_b (tk_b (tk_b (tk_l dX4_ask_97) (tk_l dX4_ask_98)) (tk_b (tk_l dX4_ask_101) (tk_l dX4_ask_102))) (tk_b (tk_b (tk_l dX4_ask_105) (tk_l dX4_ask_106)) (tk_b (tk_l dX4_ask_109) (tk_b (tk_l dX4_ask_110) (tk_l dX4_ask_113))))) (tk_b (tk_b (tk_b (tk_l dX4_ask_116) (tk_l dX4_ask_117)) (tk_b (tk_l dX4_ask_118) (tk_l dX4_ask_119))) (tk_b (tk_b (tk_l dX4_ask_120) (tk_l dX4_ask_123)) (tk_b (tk_l dX4_ask_124) (tk_b (tk_l dX4_ask_125) (tk_l dX4_ask_126)))))))) (tk_b (tk_b (tk_b (tk_b (tk_b (tk_b (tk_l dX4_ask_129) (tk_l dX4_ask_130)) (tk_b (tk_l dX4_ask_131) (tk_l dX4_ask_132))) (tk_b (tk_b (tk_l dX4_ask_135) (tk_l dX4_ask_136)) (tk_b (tk_l dX4_ask_139) (tk_l dX4_ask_140)))) (tk_b (tk_b (tk_b (tk_l dX4_ask_141) (tk_l dX4_ask_142)) (tk_b (tk_l dX4_ask_145) (tk_l dX4_ask_146))) (tk_b (tk_b (tk_l dX4_ask_149) (tk_l dX4_ask_150)) (tk_b (tk_l dX4_ask_153) (tk_b (tk_l dX4_ask_154) (tk_l dX4_ask_155)))))) (tk_b (tk_b (tk_b (tk_b (tk_l dX4_ask_156) (tk_l dX4_ask_159)) (tk_b (tk_l dX4_ask_160) (tk_l dX4_ask_163))) (tk_b (tk_b (tk_l dX4_ask_164) (tk_l dX4_ask_165)) (tk_b (tk_l dX4_ask_166) (tk_b (tk_l dX4_ask_169) (tk_l dX4_ask_170))))) (tk_b (tk_b (tk_b (tk_l dX4_ask_173) (tk_l dX4_ask_174)) (tk_b (tk_l dX4_ask_177) (tk_l dX4_ask_178))) (tk_b (tk_b (tk_l dX4_ask_179) (tk_l dX4_ask_180)) (tk_b (tk_l dX4_ask_181) (tk_b (tk_l dX4_ask_184) (tk_l dX4_ask_185))))))) (tk_b (tk_b (tk_b (tk_b (tk_b (tk_l dX4_ask_188) (tk_l dX4_ask_189)) (tk_b (tk_l dX4_ask_192) (tk_l dX4_ask_193))) (tk_b (tk_b (tk_l dX4_ask_194) (tk_l dX4_ask_195)) (tk_b (tk_l dX4_ask_196) (tk_l dX4_ask_199)))) (tk_b (tk_b (tk_b (tk_l dX4_ask_200) (tk_l dX4_ask_203)) (tk_b (tk_l dX4_ask_204) (tk_l dX4_ask_205))) (tk_b (tk_b (tk_l dX4_ask_206) (tk_l dX4_ask_209)) (tk_b (tk_l dX4_ask_210) (tk_b (tk_l dX4_ask_211) (tk_l dX4_ask_214)))))) (tk_b (tk_b (tk_b (tk_b (tk_l dX4_ask_215) (tk_l dX4_ask_216)) (tk_b (tk_l dX4_ask_217) (tk_l dX4_ask_220))) (tk_b (tk_b (tk_l dX4_ask_221) (tk_l dX4_ask_222)) (tk_b (tk_l dX4_ask_225) (tk_b (tk_l dX4_ask_226) (tk_l dX4_ask_227))))) (tk_b (tk_b (tk_b (tk_l dX4_ask_230) (tk_l dX4_ask_231)) (tk_b (tk_l dX4_ask_232) (tk_l dX4_ask_235))) (tk_b (tk_b (tk_l dX4_ask_236) (tk_l dX4_ask_237)) (tk_b (tk_l dX4_ask_238) (tk_b (tk_l dX4_ask_241) (tk_l dX4_ask_242)))))))))
def tbX4_isCall (pc : Nat) : Option (Instr × Nat) := (cond (Nat.ble pc 3) (cond (Nat.ble pc 1) (cond (Nat.ble pc 0) (cond (Nat.beq pc 0) (some (.iload_n 1, 1)) none) (cond (Nat.beq pc 1) (some (.iconst 0, 1)) none)) (cond (Nat.ble pc 2) (cond (Nat.beq pc 2) (some (.aload_n 0, 1)) none) (cond (Nat.beq pc 3) (some (.getfield 119, 3)) none))) (cond (Nat.ble pc 7) (cond (Nat.ble pc 6) (cond (Nat.beq pc 6) (some (.iconst 1, 1)) none) (cond (Nat.beq pc 7) (some (.isub, 1)) none)) (cond (Nat.ble pc 8) (cond (Nat.beq pc 8) (some (.invokestatic 84, 3)) none) (cond (Nat.beq pc 11) (some (.ireturn, 1)) none))))
theorem tkX4_isCall : tkAll cX4_isCall tbX4_isCall := fun pc => (tk_b (tk_b (tk_b (tk_l dX4_isCall_0) (tk_l dX4_isCall_1)) (tk_b (tk_l dX4_isCall_2) (tk_l dX4_isCall_3))) (tk_b (tk_b (tk_l dX4_isCall_6) (tk_l dX4_isCall_7)) (tk_b (tk_l dX4_isCall_8) (tk_l dX4_isCall_11))))
def tbX4_finds (pc : Nat) : Option (Instr × Nat) := (cond (Nat.ble pc 50) (cond (Nat.ble pc 21) (cond (Nat.ble pc 9) (cond (Nat.ble pc 2) (cond (Nat.ble pc 0) (cond (Nat.beq pc 0) (some (.iconst (-1), 1)) none) (cond (Nat.ble pc 1) (cond (Nat.beq pc 1) (some (.istore_n 3, 1)) none) (cond (Nat.beq pc 2) (some (.bipush 6, 2)) none))) (cond (Nat.ble pc 6) (cond (Nat.ble pc 4) (cond (Nat.beq pc 4) (some (.istore 4, 2)) none) (cond (Nat.beq pc 6) (some (.iconst 0, 1)) none)) (cond (Nat.ble pc 7) (cond (Nat.beq pc 7) (some (.istore 5, 2)) none) (cond (Nat.beq pc 9) (some (.iload 5, 2)) none)))) (cond (Nat.ble pc 16) (cond (Nat.ble pc 12) (cond (Nat.ble pc 11) (cond (Nat.beq pc 11) (some (.iconst 5, 1)) none) (cond (Nat.beq pc 12) (some (.if_icmp .ge 100, 3)) none)) (cond (Nat.ble pc 15) (cond (Nat.beq pc 15) (some (.iconst 5, 1)) none) (cond (Nat.beq pc 16) (some (.iload_n 1, 1)) none))) (cond (Nat.ble pc 18) (cond (Nat.ble pc 17) (cond (Nat.beq pc 17) (some (.imul, 1)) none) (cond (Nat.beq pc 18) (some (.iload 5, 2)) none)) (cond (Nat.ble pc 20) (cond (Nat.beq pc 20) (some (.iadd, 1)) none) (cond (Nat.beq pc 21) (some (.istore 6, 2)) none))))) (cond (Nat.ble pc 35) (cond (Nat.ble pc 28) (cond (Nat.ble pc 24) (cond (Nat.ble pc 23) (cond (Nat.beq pc 23) (some (.iconst 0, 1)) none) (cond (Nat.beq pc 24) (some (.istore 7, 2)) none)) (cond (Nat.ble pc 26) (cond (Nat.beq pc 26) (some (.iload 7, 2)) none) (cond (Nat.beq pc 28) (some (.aload_n 0, 1)) none))) (cond (Nat.ble pc 32) (cond (Nat.ble pc 29) (cond (Nat.beq pc 29) (some (.getfield 19, 3)) none) (cond (Nat.beq pc 32) (some (.iload 6, 2)) none)) (cond (Nat.ble pc 34) (cond (Nat.beq pc 34) (some (.iaload, 1)) none) (cond (Nat.beq pc 35) (some (.if_icmp .ge 71, 3)) none)))) (cond (Nat.ble pc 44) (cond (Nat.ble pc 39) (cond (Nat.ble pc 38) (cond (Nat.beq pc 38) (some (.aload_n 0, 1)) none) (cond (Nat.beq pc 39) (some (.getfield 22, 3)) none)) (cond (Nat.ble pc 42) (cond (Nat.beq pc 42) (some (.bipush 6, 2)) none) (cond (Nat.beq pc 44) (some (.iload 6, 2)) none))) (cond (Nat.ble pc 47) (cond (Nat.ble pc 46) (cond (Nat.beq pc 46) (some (.imul, 1)) none) (cond (Nat.beq pc 47) (some (.iload 7, 2)) none)) (cond (Nat.ble pc 49) (cond (Nat.beq pc 49) (some (.iadd, 1)) none) (cond (Nat.beq pc 50) (some (.iaload, 1)) none)))))) (cond (Nat.ble pc 77) (cond (Nat.ble pc 62) (cond (Nat.ble pc 57) (cond (Nat.ble pc 53) (cond (Nat.ble pc 51) (cond (Nat.beq pc 51) (some (.istore 8, 2)) none) (cond (Nat.beq pc 53) (some (.aload_n 0, 1)) none)) (cond (Nat.ble pc 54) (cond (Nat.beq pc 54) (some (.getfield 19, 3)) none) (cond (Nat.beq pc 57) (some (.iload 6, 2)) none))) (cond (Nat.ble pc 60) (cond (Nat.ble pc 59) (cond (Nat.beq pc 59) (some (.iaload, 1)) none) (cond (Nat.beq pc 60) (some (.iconst 1, 1)) none)) (cond (Nat.ble pc 61) (cond (Nat.beq pc 61) (some (.isub, 1)) none) (cond (Nat.beq pc 62) (some (.iload 7, 2)) none)))) (cond (Nat.ble pc 68) (cond (Nat.ble pc 65) (cond (Nat.ble pc 64) (cond (Nat.beq pc 64) (some (.isub, 1)) none) (cond (Nat.beq pc 65) (some (.istore 9, 2)) none)) (cond (Nat.ble pc 67) (cond (Nat.beq pc 67) (some (.aload_n 0, 1)) none) (cond (Nat.beq pc 68) (some (.iload 8, 2)) none))) (cond (Nat.ble pc 73) (cond (Nat.ble pc 70) (cond (Nat.beq pc 70) (some (.invokevirtual 116, 3)) none) (cond (Nat.beq pc 73) (some (.ifCond .ne 27, 3)) none)) (cond (Nat.ble pc 76) (cond (Nat.beq pc 76) (some (.aload_n 0, 1)) none) (cond (Nat.beq pc 77) (some (.iload 8, 2)) none))))) (cond (Nat.ble pc 95) (cond (Nat.ble pc 86) (cond (Nat.ble pc 80) (cond (Nat.ble pc 79) (cond (Nat.beq pc 79) (some (.iload_n 2, 1)) none) (cond (Nat.beq pc 80) (some (.invokevirtual 145, 3)) none)) (cond (Nat.ble pc 83) (cond (Nat.beq pc 83) (some (.ifCond .eq 17, 3)) none) (cond (Nat.beq pc 86) (some (.iload 9, 2)) none))) (cond (Nat.ble pc 90) (cond (Nat.ble pc 88) (cond (Nat.beq pc 88) (some (.iload 4, 2)) none) (cond (Nat.beq pc 90) (some (.if_icmp .ge 10, 3)) none)) (cond (Nat.ble pc 93) (cond (Nat.beq pc 93) (some (.iload 8, 2)) none) (cond (Nat.beq pc 95) (some (.istore_n 3, 1)) none)))) (cond (Nat.ble pc 103) (cond (Nat.ble pc 98) (cond (Nat.ble pc 96) (cond (Nat.beq pc 96) (some (.iload 9, 2)) none) (cond (Nat.beq pc 98) (some (.istore 4, 2)) none)) (cond (Nat.ble pc 100) (cond (Nat.beq pc 100) (some (.iinc 7 1, 3)) none) (cond (Nat.beq pc 103) (some (.goto (-77), 3)) none))) (cond (Nat.ble pc 109) (cond (Nat.ble pc 106) (cond (Nat.beq pc 106) (some (.iinc 5 1, 3)) none) (cond (Nat.beq pc 109) (some (.goto (-100), 3)) none)) (cond (Nat.ble pc 112) (cond (Nat.beq pc 112) (some (.iload_n 3, 1)) none) (cond (Nat.beq pc 113) (some (.ireturn, 1)) none)))))))
theorem tkX4_finds : tkAll cX4_finds tbX4_finds := fun pc => (tk_b (tk_b (tk_b (tk_b (tk_b (tk_l dX4_finds_0) (tk_b (tk_l dX4_finds_1) (tk_l dX4_finds_2))) (tk_b (tk_b (tk_l dX4_finds_4) (tk_l dX4_finds_6)) (tk_b (tk_l dX4_finds_7) (tk_l dX4_finds_9)))) (tk_b (tk_b (tk_b (tk_l dX4_finds_11) (tk_l dX4_finds_12)) (tk_b (tk_l dX4_finds_15) (tk_l dX4_finds_16))) (tk_b (tk_b (tk_l dX4_finds_17) (tk_l dX4_finds_18)) (tk_b (tk_l dX4_finds_20) (tk_l dX4_finds_21))))) (tk_b (tk_b (tk_b (tk_b (tk_l dX4_finds_23) (tk_l dX4_finds_24)) (tk_b (tk_l dX4_finds_26) (tk_l dX4_finds_28))) (tk_b (tk_b (tk_l dX4_finds_29) (tk_l dX4_finds_32)) (tk_b (tk_l dX4_finds_34) (tk_l dX4_finds_35)))) (tk_b (tk_b (tk_b (tk_l dX4_finds_38) (tk_l dX4_finds_39)) (tk_b (tk_l dX4_finds_42) (tk_l dX4_finds_44))) (tk_b (tk_b (tk_l dX4_finds_46) (tk_l dX4_finds_47)) (tk_b (tk_l dX4_finds_49) (tk_l dX4_finds_50)))))) (tk_b (tk_b (tk_b (tk_b (tk_b (tk_l dX4_finds_51) (tk_l dX4_finds_53)) (tk_b (tk_l dX4_finds_54) (tk_l dX4_finds_57))) (tk_b (tk_b (tk_l dX4_finds_59) (tk_l dX4_finds_60)) (tk_b (tk_l dX4_finds_61) (tk_l dX4_finds_62)))) (tk_b (tk_b (tk_b (tk_l dX4_finds_64) (tk_l dX4_finds_65)) (tk_b (tk_l dX4_finds_67) (tk_l dX4_finds_68))) (tk_b (tk_b (tk_l dX4_finds_70) (tk_l dX4_finds_73)) (tk_b (tk_l dX4_finds_76) (tk_l dX4_finds_77))))) (tk_b (tk_b (tk_b (tk_b (tk_l dX4_finds_79) (tk_l dX4_finds_80)) (tk_b (tk_l dX4_finds_83) (tk_l dX4_finds_86))) (tk_b (tk_b (tk_l dX4_finds_88) (tk_l dX4_finds_90)) (tk_b (tk_l dX4_finds_93) (tk_l dX4_finds_95)))) (tk_b (tk_b (tk_b (tk_l dX4_finds_96) (tk_l dX4_finds_98)) (tk_b (tk_l dX4_finds_100) (tk_l dX4_finds_103))) (tk_b (tk_b (tk_l dX4_finds_106) (tk_l dX4_finds_109)) (tk_b (tk_l dX4_finds_112) (tk_l dX4_finds_113)))))))
def tbX4_fits (pc : Nat) : Option (Instr × Nat) := (cond (Nat.ble pc 21) (cond (Nat.ble pc 10) (cond (Nat.ble pc 4) (cond (Nat.ble pc 0) (cond (Nat.beq pc 0) (some (.aload_n 0, 1)) none) (cond (Nat.ble pc 1) (cond (Nat.beq pc 1) (some (.getfield 13, 3)) none) (cond (Nat.beq pc 4) (some (.iload_n 1, 1)) none))) (cond (Nat.ble pc 6) (cond (Nat.ble pc 5) (cond (Nat.beq pc 5) (some (.iaload, 1)) none) (cond (Nat.beq pc 6) (some (.iconst (-1), 1)) none)) (cond (Nat.ble pc 7) (cond (Nat.beq pc 7) (some (.if_icmp .eq 32, 3)) none) (cond (Nat.beq pc 10) (some (.aload_n 0, 1)) none)))) (cond (Nat.ble pc 15) (cond (Nat.ble pc 11) (cond (Nat.beq pc 11) (some (.getfield 13, 3)) none) (cond (Nat.ble pc 14) (cond (Nat.beq pc 14) (some (.iload_n 1, 1)) none) (cond (Nat.beq pc 15) (some (.iaload, 1)) none))) (cond (Nat.ble pc 17) (cond (Nat.ble pc 16) (cond (Nat.beq pc 16) (some (.iload_n 2, 1)) none) (cond (Nat.beq pc 17) (some (.if_icmp .eq 22, 3)) none)) (cond (Nat.ble pc 20) (cond (Nat.beq pc 20) (some (.aload_n 0, 1)) none) (cond (Nat.beq pc 21) (some (.getfield 25, 3)) none))))) (cond (Nat.ble pc 32) (cond (Nat.ble pc 28) (cond (Nat.ble pc 24) (cond (Nat.beq pc 24) (some (.aload_n 0, 1)) none) (cond (Nat.ble pc 25) (cond (Nat.beq pc 25) (some (.getfield 13, 3)) none) (cond (Nat.beq pc 28) (some (.iload_n 1, 1)) none))) (cond (Nat.ble pc 30) (cond (Nat.ble pc 29) (cond (Nat.beq pc 29) (some (.iaload, 1)) none) (cond (Nat.beq pc 30) (some (.iaload, 1)) none)) (cond (Nat.ble pc 31) (cond (Nat.beq pc 31) (some (.iload_n 2, 1)) none) (cond (Nat.beq pc 32) (some (.ishr, 1)) none)))) (cond (Nat.ble pc 36) (cond (Nat.ble pc 34) (cond (Nat.ble pc 33) (cond (Nat.beq pc 33) (some (.iconst 1, 1)) none) (cond (Nat.beq pc 34) (some (.iand, 1)) none)) (cond (Nat.ble pc 35) (cond (Nat.beq pc 35) (some (.iconst 1, 1)) none) (cond (Nat.beq pc 36) (some (.if_icmp .ne 7, 3)) none))) (cond (Nat.ble pc 40) (cond (Nat.ble pc 39) (cond (Nat.beq pc 39) (some (.iconst 1, 1)) none) (cond (Nat.beq pc 40) (some (.goto 4, 3)) none)) (cond (Nat.ble pc 43) (cond (Nat.beq pc 43) (some (.iconst 0, 1)) none) (cond (Nat.beq pc 44) (some (.ireturn, 1)) none))))))
theorem tkX4_fits : tkAll cX4_fits tbX4_fits := fun pc => (tk_b (tk_b (tk_b (tk_b (tk_l dX4_fits_0) (tk_b (tk_l dX4_fits_1) (tk_l dX4_fits_4))) (tk_b (tk_b (tk_l dX4_fits_5) (tk_l dX4_fits_6)) (tk_b (tk_l dX4_fits_7) (tk_l dX4_fits_10)))) (tk_b (tk_b (tk_l dX4_fits_11) (tk_b (tk_l dX4_fits_14) (tk_l dX4_fits_15))) (tk_b (tk_b (tk_l dX4_fits_16) (tk_l dX4_fits_17)) (tk_b (tk_l dX4_fits_20) (tk_l dX4_fits_21))))) (tk_b (tk_b (tk_b (tk_l dX4_fits_24) (tk_b (tk_l dX4_fits_25) (tk_l dX4_fits_28))) (tk_b (tk_b (tk_l dX4_fits_29) (tk_l dX4_fits_30)) (tk_b (tk_l dX4_fits_31) (tk_l dX4_fits_32)))) (tk_b (tk_b (tk_b (tk_l dX4_fits_33) (tk_l dX4_fits_34)) (tk_b (tk_l dX4_fits_35) (tk_l dX4_fits_36))) (tk_b (tk_b (tk_l dX4_fits_39) (tk_l dX4_fits_40)) (tk_b (tk_l dX4_fits_43) (tk_l dX4_fits_44))))))
def tbX4_adds (pc : Nat) : Option (Instr × Nat) := (cond (Nat.ble pc 17) (cond (Nat.ble pc 8) (cond (Nat.ble pc 4) (cond (Nat.ble pc 0) (cond (Nat.beq pc 0) (some (.aload_n 0, 1)) none) (cond (Nat.ble pc 1) (cond (Nat.beq pc 1) (some (.getfield 65, 3)) none) (cond (Nat.beq pc 4) (some (.bipush 30, 2)) none))) (cond (Nat.ble pc 6) (cond (Nat.beq pc 6) (some (.iload_n 1, 1)) none) (cond (Nat.ble pc 7) (cond (Nat.beq pc 7) (some (.imul, 1)) none) (cond (Nat.beq pc 8) (some (.aload_n 0, 1)) none)))) (cond (Nat.ble pc 13) (cond (Nat.ble pc 9) (cond (Nat.beq pc 9) (some (.getfield 62, 3)) none) (cond (Nat.ble pc 12) (cond (Nat.beq pc 12) (some (.iload_n 1, 1)) none) (cond (Nat.beq pc 13) (some (.iaload, 1)) none))) (cond (Nat.ble pc 15) (cond (Nat.ble pc 14) (cond (Nat.beq pc 14) (some (.iadd, 1)) none) (cond (Nat.beq pc 15) (some (.iload_n 2, 1)) none)) (cond (Nat.ble pc 16) (cond (Nat.beq pc 16) (some (.iastore, 1)) none) (cond (Nat.beq pc 17) (some (.aload_n 0, 1)) none))))) (cond (Nat.ble pc 25) (cond (Nat.ble pc 22) (cond (Nat.ble pc 18) (cond (Nat.beq pc 18) (some (.getfield 62, 3)) none) (cond (Nat.ble pc 21) (cond (Nat.beq pc 21) (some (.iload_n 1, 1)) none) (cond (Nat.beq pc 22) (some (.dup2, 1)) none))) (cond (Nat.ble pc 23) (cond (Nat.beq pc 23) (some (.iaload, 1)) none) (cond (Nat.ble pc 24) (cond (Nat.beq pc 24) (some (.iconst 1, 1)) none) (cond (Nat.beq pc 25) (some (.iadd, 1)) none)))) (cond (Nat.ble pc 28) (cond (Nat.ble pc 26) (cond (Nat.beq pc 26) (some (.iastore, 1)) none) (cond (Nat.ble pc 27) (cond (Nat.beq pc 27) (some (.aload_n 0, 1)) none) (cond (Nat.beq pc 28) (some (.getfield 16, 3)) none))) (cond (Nat.ble pc 32) (cond (Nat.ble pc 31) (cond (Nat.beq pc 31) (some (.iload_n 2, 1)) none) (cond (Nat.beq pc 32) (some (.iload_n 1, 1)) none)) (cond (Nat.ble pc 33) (cond (Nat.beq pc 33) (some (.iastore, 1)) none) (cond (Nat.beq pc 34) (some (.return_, 1)) none))))))
theorem tkX4_adds : tkAll cX4_adds tbX4_adds := fun pc => (tk_b (tk_b (tk_b (tk_b (tk_l dX4_adds_0) (tk_b (tk_l dX4_adds_1) (tk_l dX4_adds_4))) (tk_b (tk_l dX4_adds_6) (tk_b (tk_l dX4_adds_7) (tk_l dX4_adds_8)))) (tk_b (tk_b (tk_l dX4_adds_9) (tk_b (tk_l dX4_adds_12) (tk_l dX4_adds_13))) (tk_b (tk_b (tk_l dX4_adds_14) (tk_l dX4_adds_15)) (tk_b (tk_l dX4_adds_16) (tk_l dX4_adds_17))))) (tk_b (tk_b (tk_b (tk_l dX4_adds_18) (tk_b (tk_l dX4_adds_21) (tk_l dX4_adds_22))) (tk_b (tk_l dX4_adds_23) (tk_b (tk_l dX4_adds_24) (tk_l dX4_adds_25)))) (tk_b (tk_b (tk_l dX4_adds_26) (tk_b (tk_l dX4_adds_27) (tk_l dX4_adds_28))) (tk_b (tk_b (tk_l dX4_adds_31) (tk_l dX4_adds_32)) (tk_b (tk_l dX4_adds_33) (tk_l dX4_adds_34))))))
def tbX4_confirm (pc : Nat) : Option (Instr × Nat) := (cond (Nat.ble pc 37) (cond (Nat.ble pc 18) (cond (Nat.ble pc 6) (cond (Nat.ble pc 1) (cond (Nat.ble pc 0) (cond (Nat.beq pc 0) (some (.aload_n 0, 1)) none) (cond (Nat.beq pc 1) (some (.aload_n 0, 1)) none)) (cond (Nat.ble pc 2) (cond (Nat.beq pc 2) (some (.iload_n 1, 1)) none) (cond (Nat.ble pc 3) (cond (Nat.beq pc 3) (some (.invokevirtual 148, 3)) none) (cond (Nat.beq pc 6) (some (.ifCond .ne 7, 3)) none)))) (cond (Nat.ble pc 13) (cond (Nat.ble pc 9) (cond (Nat.beq pc 9) (some (.iconst 1, 1)) none) (cond (Nat.ble pc 10) (cond (Nat.beq pc 10) (some (.goto 27, 3)) none) (cond (Nat.beq pc 13) (some (.aload_n 0, 1)) none))) (cond (Nat.ble pc 14) (cond (Nat.beq pc 14) (some (.getfield 40, 3)) none) (cond (Nat.ble pc 17) (cond (Nat.beq pc 17) (some (.iload_n 1, 1)) none) (cond (Nat.beq pc 18) (some (.baload, 1)) none))))) (cond (Nat.ble pc 27) (cond (Nat.ble pc 22) (cond (Nat.ble pc 19) (cond (Nat.beq pc 19) (some (.ifCond .eq 13, 3)) none) (cond (Nat.beq pc 22) (some (.aload_n 0, 1)) none)) (cond (Nat.ble pc 23) (cond (Nat.beq pc 23) (some (.getfield 44, 3)) none) (cond (Nat.ble pc 26) (cond (Nat.beq pc 26) (some (.iload_n 1, 1)) none) (cond (Nat.beq pc 27) (some (.iaload, 1)) none)))) (cond (Nat.ble pc 32) (cond (Nat.ble pc 28) (cond (Nat.beq pc 28) (some (.iconst (-1), 1)) none) (cond (Nat.ble pc 29) (cond (Nat.beq pc 29) (some (.if_icmp .ne 7, 3)) none) (cond (Nat.beq pc 32) (some (.iconst 2, 1)) none))) (cond (Nat.ble pc 33) (cond (Nat.beq pc 33) (some (.goto 4, 3)) none) (cond (Nat.ble pc 36) (cond (Nat.beq pc 36) (some (.iconst 0, 1)) none) (cond (Nat.beq pc 37) (some (.putfield 80, 3)) none)))))) (cond (Nat.ble pc 56) (cond (Nat.ble pc 48) (cond (Nat.ble pc 41) (cond (Nat.ble pc 40) (cond (Nat.beq pc 40) (some (.aload_n 0, 1)) none) (cond (Nat.beq pc 41) (some (.getfield 80, 3)) none)) (cond (Nat.ble pc 44) (cond (Nat.beq pc 44) (some (.ifCond .le 5, 3)) none) (cond (Nat.ble pc 47) (cond (Nat.beq pc 47) (some (.iconst 0, 1)) none) (cond (Nat.beq pc 48) (some (.ireturn, 1)) none)))) (cond (Nat.ble pc 53) (cond (Nat.ble pc 49) (cond (Nat.beq pc 49) (some (.aload_n 0, 1)) none) (cond (Nat.ble pc 50) (cond (Nat.beq pc 50) (some (.getfield 44, 3)) none) (cond (Nat.beq pc 53) (some (.iload_n 1, 1)) none))) (cond (Nat.ble pc 54) (cond (Nat.beq pc 54) (some (.iaload, 1)) none) (cond (Nat.ble pc 55) (cond (Nat.beq pc 55) (some (.istore_n 2, 1)) none) (cond (Nat.beq pc 56) (some (.aload_n 0, 1)) none))))) (cond (Nat.ble pc 63) (cond (Nat.ble pc 60) (cond (Nat.ble pc 57) (cond (Nat.beq pc 57) (some (.getfield 47, 3)) none) (cond (Nat.beq pc 60) (some (.iload_n 2, 1)) none)) (cond (Nat.ble pc 61) (cond (Nat.beq pc 61) (some (.iconst 2, 1)) none) (cond (Nat.ble pc 62) (cond (Nat.beq pc 62) (some (.iastore, 1)) none) (cond (Nat.beq pc 63) (some (.aload_n 0, 1)) none)))) (cond (Nat.ble pc 68) (cond (Nat.ble pc 64) (cond (Nat.beq pc 64) (some (.getfield 44, 3)) none) (cond (Nat.ble pc 67) (cond (Nat.beq pc 67) (some (.iload_n 1, 1)) none) (cond (Nat.beq pc 68) (some (.iconst (-1), 1)) none))) (cond (Nat.ble pc 69) (cond (Nat.beq pc 69) (some (.iastore, 1)) none) (cond (Nat.ble pc 70) (cond (Nat.beq pc 70) (some (.iload_n 2, 1)) none) (cond (Nat.beq pc 71) (some (.ireturn, 1)) none)))))))
theorem tkX4_confirm : tkAll cX4_confirm tbX4_confirm := fun pc => (tk_b (tk_b (tk_b (tk_b (tk_b (tk_l dX4_confirm_0) (tk_l dX4_confirm_1)) (tk_b (tk_l dX4_confirm_2) (tk_b (tk_l dX4_confirm_3) (tk_l dX4_confirm_6)))) (tk_b (tk_b (tk_l dX4_confirm_9) (tk_b (tk_l dX4_confirm_10) (tk_l dX4_confirm_13))) (tk_b (tk_l dX4_confirm_14) (tk_b (tk_l dX4_confirm_17) (tk_l dX4_confirm_18))))) (tk_b (tk_b (tk_b (tk_l dX4_confirm_19) (tk_l dX4_confirm_22)) (tk_b (tk_l dX4_confirm_23) (tk_b (tk_l dX4_confirm_26) (tk_l dX4_confirm_27)))) (tk_b (tk_b (tk_l dX4_confirm_28) (tk_b (tk_l dX4_confirm_29) (tk_l dX4_confirm_32))) (tk_b (tk_l dX4_confirm_33) (tk_b (tk_l dX4_confirm_36) (tk_l dX4_confirm_37)))))) (tk_b (tk_b (tk_b (tk_b (tk_l dX4_confirm_40) (tk_l dX4_confirm_41)) (tk_b (tk_l dX4_confirm_44) (tk_b (tk_l dX4_confirm_47) (tk_l dX4_confirm_48)))) (tk_b (tk_b (tk_l dX4_confirm_49) (tk_b (tk_l dX4_confirm_50) (tk_l dX4_confirm_53))) (tk_b (tk_l dX4_confirm_54) (tk_b (tk_l dX4_confirm_55) (tk_l dX4_confirm_56))))) (tk_b (tk_b (tk_b (tk_l dX4_confirm_57) (tk_l dX4_confirm_60)) (tk_b (tk_l dX4_confirm_61) (tk_b (tk_l dX4_confirm_62) (tk_l dX4_confirm_63)))) (tk_b (tk_b (tk_l dX4_confirm_64) (tk_b (tk_l dX4_confirm_67) (tk_l dX4_confirm_68))) (tk_b (tk_l dX4_confirm_69) (tk_b (tk_l dX4_confirm_70) (tk_l dX4_confirm_71)))))))
def tbX4_resume (pc : Nat) : Option (Instr × Nat) := (cond (Nat.ble pc 56) (cond (Nat.ble pc 26) (cond (Nat.ble pc 10) (cond (Nat.ble pc 2) (cond (Nat.ble pc 0) (cond (Nat.beq pc 0) (some (.aload_n 0, 1)) none) (cond (Nat.ble pc 1) (cond (Nat.beq pc 1) (some (.aload_n 0, 1)) none) (cond (Nat.beq pc 2) (some (.iload_n 1, 1)) none))) (cond (Nat.ble pc 6) (cond (Nat.ble pc 3) (cond (Nat.beq pc 3) (some (.invokevirtual 148, 3)) none) (cond (Nat.beq pc 6) (some (.ifCond .eq 15, 3)) none)) (cond (Nat.ble pc 9) (cond (Nat.beq pc 9) (some (.aload_n 0, 1)) none) (cond (Nat.beq pc 10) (some (.iload_n 2, 1)) none)))) (cond (Nat.ble pc 18) (cond (Nat.ble pc 14) (cond (Nat.ble pc 11) (cond (Nat.beq pc 11) (some (.invokevirtual 158, 3)) none) (cond (Nat.beq pc 14) (some (.ifCond .eq 7, 3)) none)) (cond (Nat.ble pc 17) (cond (Nat.beq pc 17) (some (.iconst 0, 1)) none) (cond (Nat.beq pc 18) (some (.goto 4, 3)) none))) (cond (Nat.ble pc 22) (cond (Nat.ble pc 21) (cond (Nat.beq pc 21) (some (.iconst 1, 1)) none) (cond (Nat.beq pc 22) (some (.putfield 80, 3)) none)) (cond (Nat.ble pc 25) (cond (Nat.beq pc 25) (some (.aload_n 0, 1)) none) (cond (Nat.beq pc 26) (some (.getfield 80, 3)) none))))) (cond (Nat.ble pc 42) (cond (Nat.ble pc 34) (cond (Nat.ble pc 32) (cond (Nat.ble pc 29) (cond (Nat.beq pc 29) (some (.ifCond .ne 50, 3)) none) (cond (Nat.beq pc 32) (some (.aload_n 0, 1)) none)) (cond (Nat.ble pc 33) (cond (Nat.beq pc 33) (some (.aload_n 0, 1)) none) (cond (Nat.beq pc 34) (some (.getfield 40, 3)) none))) (cond (Nat.ble pc 38) (cond (Nat.ble pc 37) (cond (Nat.beq pc 37) (some (.iload_n 1, 1)) none) (cond (Nat.beq pc 38) (some (.baload, 1)) none)) (cond (Nat.ble pc 39) (cond (Nat.beq pc 39) (some (.ifCond .eq 36, 3)) none) (cond (Nat.beq pc 42) (some (.aload_n 0, 1)) none)))) (cond (Nat.ble pc 48) (cond (Nat.ble pc 46) (cond (Nat.ble pc 43) (cond (Nat.beq pc 43) (some (.getfield 44, 3)) none) (cond (Nat.beq pc 46) (some (.iload_n 1, 1)) none)) (cond (Nat.ble pc 47) (cond (Nat.beq pc 47) (some (.iaload, 1)) none) (cond (Nat.beq pc 48) (some (.iconst (-1), 1)) none))) (cond (Nat.ble pc 52) (cond (Nat.ble pc 49) (cond (Nat.beq pc 49) (some (.if_icmp .ne 26, 3)) none) (cond (Nat.beq pc 52) (some (.aload_n 0, 1)) none)) (cond (Nat.ble pc 53) (cond (Nat.beq pc 53) (some (.getfield 47, 3)) none) (cond (Nat.beq pc 56) (some (.iload_n 2, 1)) none)))))) (cond (Nat.ble pc 86) (cond (Nat.ble pc 68) (cond (Nat.ble pc 62) (cond (Nat.ble pc 58) (cond (Nat.ble pc 57) (cond (Nat.beq pc 57) (some (.iaload, 1)) none) (cond (Nat.beq pc 58) (some (.iconst 1, 1)) none)) (cond (Nat.ble pc 59) (cond (Nat.beq pc 59) (some (.if_icmp .ne 16, 3)) none) (cond (Nat.beq pc 62) (some (.aload_n 0, 1)) none))) (cond (Nat.ble pc 64) (cond (Nat.ble pc 63) (cond (Nat.beq pc 63) (some (.iload_n 1, 1)) none) (cond (Nat.beq pc 64) (some (.iload_n 2, 1)) none)) (cond (Nat.ble pc 65) (cond (Nat.beq pc 65) (some (.invokevirtual 161, 3)) none) (cond (Nat.beq pc 68) (some (.ifCond .eq 7, 3)) none)))) (cond (Nat.ble pc 76) (cond (Nat.ble pc 72) (cond (Nat.ble pc 71) (cond (Nat.beq pc 71) (some (.iconst 0, 1)) none) (cond (Nat.beq pc 72) (some (.goto 4, 3)) none)) (cond (Nat.ble pc 75) (cond (Nat.beq pc 75) (some (.iconst 2, 1)) none) (cond (Nat.beq pc 76) (some (.putfield 80, 3)) none))) (cond (Nat.ble pc 80) (cond (Nat.ble pc 79) (cond (Nat.beq pc 79) (some (.aload_n 0, 1)) none) (cond (Nat.beq pc 80) (some (.getfield 80, 3)) none)) (cond (Nat.ble pc 83) (cond (Nat.beq pc 83) (some (.ifCond .le 5, 3)) none) (cond (Nat.beq pc 86) (some (.iconst 0, 1)) none))))) (cond (Nat.ble pc 96) (cond (Nat.ble pc 92) (cond (Nat.ble pc 88) (cond (Nat.ble pc 87) (cond (Nat.beq pc 87) (some (.ireturn, 1)) none) (cond (Nat.beq pc 88) (some (.aload_n 0, 1)) none)) (cond (Nat.ble pc 89) (cond (Nat.beq pc 89) (some (.getfield 47, 3)) none) (cond (Nat.beq pc 92) (some (.iload_n 2, 1)) none))) (cond (Nat.ble pc 94) (cond (Nat.ble pc 93) (cond (Nat.beq pc 93) (some (.iconst 0, 1)) none) (cond (Nat.beq pc 94) (some (.iastore, 1)) none)) (cond (Nat.ble pc 95) (cond (Nat.beq pc 95) (some (.aload_n 0, 1)) none) (cond (Nat.beq pc 96) (some (.getfield 44, 3)) none)))) (cond (Nat.ble pc 102) (cond (Nat.ble pc 100) (cond (Nat.ble pc 99) (cond (Nat.beq pc 99) (some (.iload_n 1, 1)) none) (cond (Nat.beq pc 100) (some (.iload_n 2, 1)) none)) (cond (Nat.ble pc 101) (cond (Nat.beq pc 101) (some (.iastore, 1)) none) (cond (Nat.beq pc 102) (some (.aload_n 0, 1)) none))) (cond (Nat.ble pc 106) (cond (Nat.ble pc 103) (cond (Nat.beq pc 103) (some (.getfield 62, 3)) none) (cond (Nat.beq pc 106) (some (.iload_n 2, 1)) none)) (cond (Nat.ble pc 107) (cond (Nat.beq pc 107) (some (.iaload, 1)) none) (cond (Nat.beq pc 108) (some (.ireturn, 1)) none)))))))
theorem tkX4_resume : tkAll cX4_resume tbX4_resume := fun pc => (tk_b (tk_b (tk_b (tk_b (tk_b (tk_l dX4_resume_0) (tk_b (tk_l dX4_resume_1) (tk_l dX4_resume_2))) (tk_b (tk_b (tk_l dX4_resume_3) (tk_l dX4_resume_6)) (tk_b (tk_l dX4_resume_9) (tk_l dX4_resume_10)))) (tk_b (tk_b (tk_b (tk_l dX4_resume_11) (tk_l dX4_resume_14)) (tk_b (tk_l dX4_resume_17) (tk_l dX4_resume_18))) (tk_b (tk_b (tk_l dX4_resume_21) (tk_l dX4_resume_22)) (tk_b (tk_l dX4_resume_25) (tk_l dX4_resume_26))))) (tk_b (tk_b (tk_b (tk_b (tk_l dX4_resume_29) (tk_l dX4_resume_32)) (tk_b (tk_l dX4_resume_33) (tk_l dX4_resume_34))) (tk_b (tk_b (tk_l dX4_resume_37) (tk_l dX4_resume_38)) (tk_b (tk_l dX4_resume_39) (tk_l dX4_resume_42)))) (tk_b (tk_b (tk_b (tk_l dX4_resume_43) (tk_l dX4_resume_46)) (tk_b (tk_l dX4_resume_47) (tk_l dX4_resume_48))) (tk_b (tk_b (tk_l dX4_resume_49) (tk_l dX4_resume_52)) (tk_b (tk_l dX4_resume_53) (tk_l dX4_resume_56)))))) (tk_b (tk_b (tk_b (tk_b (tk_b (tk_l dX4_resume_57) (tk_l dX4_resume_58)) (tk_b (tk_l dX4_resume_59) (tk_l dX4_resume_62))) (tk_b (tk_b (tk_l dX4_resume_63) (tk_l dX4_resume_64)) (tk_b (tk_l dX4_resume_65) (tk_l dX4_resume_68)))) (tk_b (tk_b (tk_b (tk_l dX4_resume_71) (tk_l dX4_resume_72)) (tk_b (tk_l dX4_resume_75) (tk_l dX4_resume_76))) (tk_b (tk_b (tk_l dX4_resume_79) (tk_l dX4_resume_80)) (tk_b (tk_l dX4_resume_83) (tk_l dX4_resume_86))))) (tk_b (tk_b (tk_b (tk_b (tk_l dX4_resume_87) (tk_l dX4_resume_88)) (tk_b (tk_l dX4_resume_89) (tk_l dX4_resume_92))) (tk_b (tk_b (tk_l dX4_resume_93) (tk_l dX4_resume_94)) (tk_b (tk_l dX4_resume_95) (tk_l dX4_resume_96)))) (tk_b (tk_b (tk_b (tk_l dX4_resume_99) (tk_l dX4_resume_100)) (tk_b (tk_l dX4_resume_101) (tk_l dX4_resume_102))) (tk_b (tk_b (tk_l dX4_resume_103) (tk_l dX4_resume_106)) (tk_b (tk_l dX4_resume_107) (tk_l dX4_resume_108)))))))
def tbX4_isBooking (pc : Nat) : Option (Instr × Nat) := (cond (Nat.ble pc 3) (cond (Nat.ble pc 1) (cond (Nat.ble pc 0) (cond (Nat.beq pc 0) (some (.iload_n 1, 1)) none) (cond (Nat.beq pc 1) (some (.iconst 0, 1)) none)) (cond (Nat.ble pc 2) (cond (Nat.beq pc 2) (some (.aload_n 0, 1)) none) (cond (Nat.beq pc 3) (some (.getfield 122, 3)) none))) (cond (Nat.ble pc 7) (cond (Nat.ble pc 6) (cond (Nat.beq pc 6) (some (.iconst 1, 1)) none) (cond (Nat.beq pc 7) (some (.isub, 1)) none)) (cond (Nat.ble pc 8) (cond (Nat.beq pc 8) (some (.invokestatic 84, 3)) none) (cond (Nat.beq pc 11) (some (.ireturn, 1)) none))))
theorem tkX4_isBooking : tkAll cX4_isBooking tbX4_isBooking := fun pc => (tk_b (tk_b (tk_b (tk_l dX4_isBooking_0) (tk_l dX4_isBooking_1)) (tk_b (tk_l dX4_isBooking_2) (tk_l dX4_isBooking_3))) (tk_b (tk_b (tk_l dX4_isBooking_6) (tk_l dX4_isBooking_7)) (tk_b (tk_l dX4_isBooking_8) (tk_l dX4_isBooking_11))))
def tbX4_isOf (pc : Nat) : Option (Instr × Nat) := (cond (Nat.ble pc 16) (cond (Nat.ble pc 6) (cond (Nat.ble pc 1) (cond (Nat.ble pc 0) (cond (Nat.beq pc 0) (some (.aload_n 0, 1)) none) (cond (Nat.beq pc 1) (some (.getfield 53, 3)) none)) (cond (Nat.ble pc 4) (cond (Nat.beq pc 4) (some (.iload_n 2, 1)) none) (cond (Nat.ble pc 5) (cond (Nat.beq pc 5) (some (.iaload, 1)) none) (cond (Nat.beq pc 6) (some (.aload_n 0, 1)) none)))) (cond (Nat.ble pc 11) (cond (Nat.ble pc 7) (cond (Nat.beq pc 7) (some (.getfield 34, 3)) none) (cond (Nat.ble pc 10) (cond (Nat.beq pc 10) (some (.iload_n 1, 1)) none) (cond (Nat.beq pc 11) (some (.iaload, 1)) none))) (cond (Nat.ble pc 12) (cond (Nat.beq pc 12) (some (.if_icmp .ne 22, 3)) none) (cond (Nat.ble pc 15) (cond (Nat.beq pc 15) (some (.aload_n 0, 1)) none) (cond (Nat.beq pc 16) (some (.getfield 56, 3)) none))))) (cond (Nat.ble pc 25) (cond (Nat.ble pc 20) (cond (Nat.ble pc 19) (cond (Nat.beq pc 19) (some (.iload_n 2, 1)) none) (cond (Nat.beq pc 20) (some (.iaload, 1)) none)) (cond (Nat.ble pc 21) (cond (Nat.beq pc 21) (some (.aload_n 0, 1)) none) (cond (Nat.ble pc 22) (cond (Nat.beq pc 22) (some (.getfield 37, 3)) none) (cond (Nat.beq pc 25) (some (.iload_n 1, 1)) none)))) (cond (Nat.ble pc 30) (cond (Nat.ble pc 26) (cond (Nat.beq pc 26) (some (.iaload, 1)) none) (cond (Nat.ble pc 27) (cond (Nat.beq pc 27) (some (.if_icmp .ne 7, 3)) none) (cond (Nat.beq pc 30) (some (.iconst 1, 1)) none))) (cond (Nat.ble pc 31) (cond (Nat.beq pc 31) (some (.goto 4, 3)) none) (cond (Nat.ble pc 34) (cond (Nat.beq pc 34) (some (.iconst 0, 1)) none) (cond (Nat.beq pc 35) (some (.ireturn, 1)) none))))))
theorem tkX4_isOf : tkAll cX4_isOf tbX4_isOf := fun pc => (tk_b (tk_b (tk_b (tk_b (tk_l dX4_isOf_0) (tk_l dX4_isOf_1)) (tk_b (tk_l dX4_isOf_4) (tk_b (tk_l dX4_isOf_5) (tk_l dX4_isOf_6)))) (tk_b (tk_b (tk_l dX4_isOf_7) (tk_b (tk_l dX4_isOf_10) (tk_l dX4_isOf_11))) (tk_b (tk_l dX4_isOf_12) (tk_b (tk_l dX4_isOf_15) (tk_l dX4_isOf_16))))) (tk_b (tk_b (tk_b (tk_l dX4_isOf_19) (tk_l dX4_isOf_20)) (tk_b (tk_l dX4_isOf_21) (tk_b (tk_l dX4_isOf_22) (tk_l dX4_isOf_25)))) (tk_b (tk_b (tk_l dX4_isOf_26) (tk_b (tk_l dX4_isOf_27) (tk_l dX4_isOf_30))) (tk_b (tk_l dX4_isOf_31) (tk_b (tk_l dX4_isOf_34) (tk_l dX4_isOf_35))))))
def tbX4_cancel (pc : Nat) : Option (Instr × Nat) := (cond (Nat.ble pc 47) (cond (Nat.ble pc 22) (cond (Nat.ble pc 9) (cond (Nat.ble pc 2) (cond (Nat.ble pc 0) (cond (Nat.beq pc 0) (some (.aload_n 0, 1)) none) (cond (Nat.ble pc 1) (cond (Nat.beq pc 1) (some (.aload_n 0, 1)) none) (cond (Nat.beq pc 2) (some (.iload_n 1, 1)) none))) (cond (Nat.ble pc 3) (cond (Nat.beq pc 3) (some (.invokevirtual 148, 3)) none) (cond (Nat.ble pc 6) (cond (Nat.beq pc 6) (some (.ifCond .eq 15, 3)) none) (cond (Nat.beq pc 9) (some (.aload_n 0, 1)) none)))) (cond (Nat.ble pc 14) (cond (Nat.ble pc 10) (cond (Nat.beq pc 10) (some (.iload_n 2, 1)) none) (cond (Nat.ble pc 11) (cond (Nat.beq pc 11) (some (.invokevirtual 158, 3)) none) (cond (Nat.beq pc 14) (some (.ifCond .eq 7, 3)) none))) (cond (Nat.ble pc 18) (cond (Nat.ble pc 17) (cond (Nat.beq pc 17) (some (.iconst 0, 1)) none) (cond (Nat.beq pc 18) (some (.goto 4, 3)) none)) (cond (Nat.ble pc 21) (cond (Nat.beq pc 21) (some (.iconst 1, 1)) none) (cond (Nat.beq pc 22) (some (.putfield 80, 3)) none))))) (cond (Nat.ble pc 34) (cond (Nat.ble pc 29) (cond (Nat.ble pc 25) (cond (Nat.beq pc 25) (some (.aload_n 0, 1)) none) (cond (Nat.ble pc 26) (cond (Nat.beq pc 26) (some (.getfield 80, 3)) none) (cond (Nat.beq pc 29) (some (.ifCond .ne 40, 3)) none))) (cond (Nat.ble pc 32) (cond (Nat.beq pc 32) (some (.aload_n 0, 1)) none) (cond (Nat.ble pc 33) (cond (Nat.beq pc 33) (some (.aload_n 0, 1)) none) (cond (Nat.beq pc 34) (some (.getfield 40, 3)) none)))) (cond (Nat.ble pc 39) (cond (Nat.ble pc 37) (cond (Nat.beq pc 37) (some (.iload_n 1, 1)) none) (cond (Nat.ble pc 38) (cond (Nat.beq pc 38) (some (.baload, 1)) none) (cond (Nat.beq pc 39) (some (.ifCond .eq 26, 3)) none))) (cond (Nat.ble pc 43) (cond (Nat.ble pc 42) (cond (Nat.beq pc 42) (some (.aload_n 0, 1)) none) (cond (Nat.beq pc 43) (some (.getfield 47, 3)) none)) (cond (Nat.ble pc 46) (cond (Nat.beq pc 46) (some (.iload_n 2, 1)) none) (cond (Nat.beq pc 47) (some (.iaload, 1)) none)))))) (cond (Nat.ble pc 70) (cond (Nat.ble pc 55) (cond (Nat.ble pc 52) (cond (Nat.ble pc 48) (cond (Nat.beq pc 48) (some (.iconst 2, 1)) none) (cond (Nat.ble pc 49) (cond (Nat.beq pc 49) (some (.if_icmp .ne 16, 3)) none) (cond (Nat.beq pc 52) (some (.aload_n 0, 1)) none))) (cond (Nat.ble pc 53) (cond (Nat.beq pc 53) (some (.iload_n 1, 1)) none) (cond (Nat.ble pc 54) (cond (Nat.beq pc 54) (some (.iload_n 2, 1)) none) (cond (Nat.beq pc 55) (some (.invokevirtual 161, 3)) none)))) (cond (Nat.ble pc 62) (cond (Nat.ble pc 58) (cond (Nat.beq pc 58) (some (.ifCond .eq 7, 3)) none) (cond (Nat.ble pc 61) (cond (Nat.beq pc 61) (some (.iconst 0, 1)) none) (cond (Nat.beq pc 62) (some (.goto 4, 3)) none))) (cond (Nat.ble pc 66) (cond (Nat.ble pc 65) (cond (Nat.beq pc 65) (some (.iconst 2, 1)) none) (cond (Nat.beq pc 66) (some (.putfield 80, 3)) none)) (cond (Nat.ble pc 69) (cond (Nat.beq pc 69) (some (.aload_n 0, 1)) none) (cond (Nat.beq pc 70) (some (.getfield 80, 3)) none))))) (cond (Nat.ble pc 82) (cond (Nat.ble pc 77) (cond (Nat.ble pc 73) (cond (Nat.beq pc 73) (some (.ifCond .le 5, 3)) none) (cond (Nat.ble pc 76) (cond (Nat.beq pc 76) (some (.iconst 0, 1)) none) (cond (Nat.beq pc 77) (some (.ireturn, 1)) none))) (cond (Nat.ble pc 78) (cond (Nat.beq pc 78) (some (.aload_n 0, 1)) none) (cond (Nat.ble pc 79) (cond (Nat.beq pc 79) (some (.getfield 47, 3)) none) (cond (Nat.beq pc 82) (some (.iload_n 2, 1)) none)))) (cond (Nat.ble pc 85) (cond (Nat.ble pc 83) (cond (Nat.beq pc 83) (some (.iconst 5, 1)) none) (cond (Nat.ble pc 84) (cond (Nat.beq pc 84) (some (.iastore, 1)) none) (cond (Nat.beq pc 85) (some (.aload_n 0, 1)) none))) (cond (Nat.ble pc 89) (cond (Nat.ble pc 86) (cond (Nat.beq pc 86) (some (.getfield 62, 3)) none) (cond (Nat.beq pc 89) (some (.iload_n 2, 1)) none)) (cond (Nat.ble pc 90) (cond (Nat.beq pc 90) (some (.iaload, 1)) none) (cond (Nat.beq pc 91) (some (.ireturn, 1)) none)))))))
theorem tkX4_cancel : tkAll cX4_cancel tbX4_cancel := fun pc => (tk_b (tk_b (tk_b (tk_b (tk_b (tk_l dX4_cancel_0) (tk_b (tk_l dX4_cancel_1) (tk_l dX4_cancel_2))) (tk_b (tk_l dX4_cancel_3) (tk_b (tk_l dX4_cancel_6) (tk_l dX4_cancel_9)))) (tk_b (tk_b (tk_l dX4_cancel_10) (tk_b (tk_l dX4_cancel_11) (tk_l dX4_cancel_14))) (tk_b (tk_b (tk_l dX4_cancel_17) (tk_l dX4_cancel_18)) (tk_b (tk_l dX4_cancel_21) (tk_l dX4_cancel_22))))) (tk_b (tk_b (tk_b (tk_l dX4_cancel_25) (tk_b (tk_l dX4_cancel_26) (tk_l dX4_cancel_29))) (tk_b (tk_l dX4_cancel_32) (tk_b (tk_l dX4_cancel_33) (tk_l dX4_cancel_34)))) (tk_b (tk_b (tk_l dX4_cancel_37) (tk_b (tk_l dX4_cancel_38) (tk_l dX4_cancel_39))) (tk_b (tk_b (tk_l dX4_cancel_42) (tk_l dX4_cancel_43)) (tk_b (tk_l dX4_cancel_46) (tk_l dX4_cancel_47)))))) (tk_b (tk_b (tk_b (tk_b (tk_l dX4_cancel_48) (tk_b (tk_l dX4_cancel_49) (tk_l dX4_cancel_52))) (tk_b (tk_l dX4_cancel_53) (tk_b (tk_l dX4_cancel_54) (tk_l dX4_cancel_55)))) (tk_b (tk_b (tk_l dX4_cancel_58) (tk_b (tk_l dX4_cancel_61) (tk_l dX4_cancel_62))) (tk_b (tk_b (tk_l dX4_cancel_65) (tk_l dX4_cancel_66)) (tk_b (tk_l dX4_cancel_69) (tk_l dX4_cancel_70))))) (tk_b (tk_b (tk_b (tk_l dX4_cancel_73) (tk_b (tk_l dX4_cancel_76) (tk_l dX4_cancel_77))) (tk_b (tk_l dX4_cancel_78) (tk_b (tk_l dX4_cancel_79) (tk_l dX4_cancel_82)))) (tk_b (tk_b (tk_l dX4_cancel_83) (tk_b (tk_l dX4_cancel_84) (tk_l dX4_cancel_85))) (tk_b (tk_b (tk_l dX4_cancel_86) (tk_l dX4_cancel_89)) (tk_b (tk_l dX4_cancel_90) (tk_l dX4_cancel_91)))))))
def tbX4_hangUp (pc : Nat) : Option (Instr × Nat) := (cond (Nat.ble pc 39) (cond (Nat.ble pc 18) (cond (Nat.ble pc 6) (cond (Nat.ble pc 1) (cond (Nat.ble pc 0) (cond (Nat.beq pc 0) (some (.aload_n 0, 1)) none) (cond (Nat.beq pc 1) (some (.aload_n 0, 1)) none)) (cond (Nat.ble pc 2) (cond (Nat.beq pc 2) (some (.iload_n 1, 1)) none) (cond (Nat.ble pc 3) (cond (Nat.beq pc 3) (some (.invokevirtual 148, 3)) none) (cond (Nat.beq pc 6) (some (.ifCond .ne 7, 3)) none)))) (cond (Nat.ble pc 13) (cond (Nat.ble pc 9) (cond (Nat.beq pc 9) (some (.iconst 1, 1)) none) (cond (Nat.ble pc 10) (cond (Nat.beq pc 10) (some (.goto 17, 3)) none) (cond (Nat.beq pc 13) (some (.aload_n 0, 1)) none))) (cond (Nat.ble pc 14) (cond (Nat.beq pc 14) (some (.getfield 40, 3)) none) (cond (Nat.ble pc 17) (cond (Nat.beq pc 17) (some (.iload_n 1, 1)) none) (cond (Nat.beq pc 18) (some (.baload, 1)) none))))) (cond (Nat.ble pc 27) (cond (Nat.ble pc 22) (cond (Nat.ble pc 19) (cond (Nat.beq pc 19) (some (.ifCond .eq 7, 3)) none) (cond (Nat.beq pc 22) (some (.iconst 0, 1)) none)) (cond (Nat.ble pc 23) (cond (Nat.beq pc 23) (some (.goto 4, 3)) none) (cond (Nat.ble pc 26) (cond (Nat.beq pc 26) (some (.iconst 2, 1)) none) (cond (Nat.beq pc 27) (some (.putfield 80, 3)) none)))) (cond (Nat.ble pc 34) (cond (Nat.ble pc 30) (cond (Nat.beq pc 30) (some (.aload_n 0, 1)) none) (cond (Nat.ble pc 31) (cond (Nat.beq pc 31) (some (.getfield 80, 3)) none) (cond (Nat.beq pc 34) (some (.ifCond .le 5, 3)) none))) (cond (Nat.ble pc 37) (cond (Nat.beq pc 37) (some (.iconst 0, 1)) none) (cond (Nat.ble pc 38) (cond (Nat.beq pc 38) (some (.ireturn, 1)) none) (cond (Nat.beq pc 39) (some (.aload_n 0, 1)) none)))))) (cond (Nat.ble pc 56) (cond (Nat.ble pc 48) (cond (Nat.ble pc 41) (cond (Nat.ble pc 40) (cond (Nat.beq pc 40) (some (.iload_n 1, 1)) none) (cond (Nat.beq pc 41) (some (.invokevirtual 164, 3)) none)) (cond (Nat.ble pc 44) (cond (Nat.beq pc 44) (some (.aload_n 0, 1)) none) (cond (Nat.ble pc 45) (cond (Nat.beq pc 45) (some (.getfield 44, 3)) none) (cond (Nat.beq pc 48) (some (.iload_n 1, 1)) none)))) (cond (Nat.ble pc 51) (cond (Nat.ble pc 49) (cond (Nat.beq pc 49) (some (.iaload, 1)) none) (cond (Nat.ble pc 50) (cond (Nat.beq pc 50) (some (.istore_n 2, 1)) none) (cond (Nat.beq pc 51) (some (.iload_n 2, 1)) none))) (cond (Nat.ble pc 52) (cond (Nat.beq pc 52) (some (.iconst (-1), 1)) none) (cond (Nat.ble pc 53) (cond (Nat.beq pc 53) (some (.if_icmp .ne 5, 3)) none) (cond (Nat.beq pc 56) (some (.iconst 0, 1)) none))))) (cond (Nat.ble pc 63) (cond (Nat.ble pc 58) (cond (Nat.ble pc 57) (cond (Nat.beq pc 57) (some (.ireturn, 1)) none) (cond (Nat.beq pc 58) (some (.aload_n 0, 1)) none)) (cond (Nat.ble pc 59) (cond (Nat.beq pc 59) (some (.getfield 47, 3)) none) (cond (Nat.ble pc 62) (cond (Nat.beq pc 62) (some (.iload_n 2, 1)) none) (cond (Nat.beq pc 63) (some (.iconst 5, 1)) none)))) (cond (Nat.ble pc 66) (cond (Nat.ble pc 64) (cond (Nat.beq pc 64) (some (.iastore, 1)) none) (cond (Nat.ble pc 65) (cond (Nat.beq pc 65) (some (.aload_n 0, 1)) none) (cond (Nat.beq pc 66) (some (.getfield 62, 3)) none))) (cond (Nat.ble pc 69) (cond (Nat.beq pc 69) (some (.iload_n 2, 1)) none) (cond (Nat.ble pc 70) (cond (Nat.beq pc 70) (some (.iaload, 1)) none) (cond (Nat.beq pc 71) (some (.ireturn, 1)) none)))))))
theorem tkX4_hangUp : tkAll cX4_hangUp tbX4_hangUp := fun pc => (tk_b (tk_b (tk_b (tk_b (tk_b (tk_l dX4_hangUp_0) (tk_l dX4_hangUp_1)) (tk_b (tk_l dX4_hangUp_2) (tk_b (tk_l dX4_hangUp_3) (tk_l dX4_hangUp_6)))) (tk_b (tk_b (tk_l dX4_hangUp_9) (tk_b (tk_l dX4_hangUp_10) (tk_l dX4_hangUp_13))) (tk_b (tk_l dX4_hangUp_14) (tk_b (tk_l dX4_hangUp_17) (tk_l dX4_hangUp_18))))) (tk_b (tk_b (tk_b (tk_l dX4_hangUp_19) (tk_l dX4_hangUp_22)) (tk_b (tk_l dX4_hangUp_23) (tk_b (tk_l dX4_hangUp_26) (tk_l dX4_hangUp_27)))) (tk_b (tk_b (tk_l dX4_hangUp_30) (tk_b (tk_l dX4_hangUp_31) (tk_l dX4_hangUp_34))) (tk_b (tk_l dX4_hangUp_37) (tk_b (tk_l dX4_hangUp_38) (tk_l dX4_hangUp_39)))))) (tk_b (tk_b (tk_b (tk_b (tk_l dX4_hangUp_40) (tk_l dX4_hangUp_41)) (tk_b (tk_l dX4_hangUp_44) (tk_b (tk_l dX4_hangUp_45) (tk_l dX4_hangUp_48)))) (tk_b (tk_b (tk_l dX4_hangUp_49) (tk_b (tk_l dX4_hangUp_50) (tk_l dX4_hangUp_51))) (tk_b (tk_l dX4_hangUp_52) (tk_b (tk_l dX4_hangUp_53) (tk_l dX4_hangUp_56))))) (tk_b (tk_b (tk_b (tk_l dX4_hangUp_57) (tk_l dX4_hangUp_58)) (tk_b (tk_l dX4_hangUp_59) (tk_b (tk_l dX4_hangUp_62) (tk_l dX4_hangUp_63)))) (tk_b (tk_b (tk_l dX4_hangUp_64) (tk_b (tk_l dX4_hangUp_65) (tk_l dX4_hangUp_66))) (tk_b (tk_l dX4_hangUp_69) (tk_b (tk_l dX4_hangUp_70) (tk_l dX4_hangUp_71)))))))
def tbX4_ends (pc : Nat) : Option (Instr × Nat) := (cond (Nat.ble pc 20) (cond (Nat.ble pc 8) (cond (Nat.ble pc 4) (cond (Nat.ble pc 0) (cond (Nat.beq pc 0) (some (.aload_n 0, 1)) none) (cond (Nat.ble pc 1) (cond (Nat.beq pc 1) (some (.getfield 40, 3)) none) (cond (Nat.beq pc 4) (some (.iload_n 1, 1)) none))) (cond (Nat.ble pc 6) (cond (Nat.ble pc 5) (cond (Nat.beq pc 5) (some (.iconst 0, 1)) none) (cond (Nat.beq pc 6) (some (.bastore, 1)) none)) (cond (Nat.ble pc 7) (cond (Nat.beq pc 7) (some (.iconst 0, 1)) none) (cond (Nat.beq pc 8) (some (.istore_n 2, 1)) none)))) (cond (Nat.ble pc 12) (cond (Nat.ble pc 9) (cond (Nat.beq pc 9) (some (.iload_n 2, 1)) none) (cond (Nat.ble pc 10) (cond (Nat.beq pc 10) (some (.bipush 6, 2)) none) (cond (Nat.beq pc 12) (some (.if_icmp .ge 35, 3)) none))) (cond (Nat.ble pc 16) (cond (Nat.ble pc 15) (cond (Nat.beq pc 15) (some (.aload_n 0, 1)) none) (cond (Nat.beq pc 16) (some (.getfield 28, 3)) none)) (cond (Nat.ble pc 19) (cond (Nat.beq pc 19) (some (.iload_n 2, 1)) none) (cond (Nat.beq pc 20) (some (.aload_n 0, 1)) none))))) (cond (Nat.ble pc 31) (cond (Nat.ble pc 25) (cond (Nat.ble pc 21) (cond (Nat.beq pc 21) (some (.getfield 28, 3)) none) (cond (Nat.ble pc 24) (cond (Nat.beq pc 24) (some (.iload_n 2, 1)) none) (cond (Nat.beq pc 25) (some (.iaload, 1)) none))) (cond (Nat.ble pc 27) (cond (Nat.ble pc 26) (cond (Nat.beq pc 26) (some (.iload_n 1, 1)) none) (cond (Nat.beq pc 27) (some (.if_icmp .ne 7, 3)) none)) (cond (Nat.ble pc 30) (cond (Nat.beq pc 30) (some (.iconst (-1), 1)) none) (cond (Nat.beq pc 31) (some (.goto 9, 3)) none)))) (cond (Nat.ble pc 39) (cond (Nat.ble pc 35) (cond (Nat.ble pc 34) (cond (Nat.beq pc 34) (some (.aload_n 0, 1)) none) (cond (Nat.beq pc 35) (some (.getfield 28, 3)) none)) (cond (Nat.ble pc 38) (cond (Nat.beq pc 38) (some (.iload_n 2, 1)) none) (cond (Nat.beq pc 39) (some (.iaload, 1)) none))) (cond (Nat.ble pc 41) (cond (Nat.ble pc 40) (cond (Nat.beq pc 40) (some (.iastore, 1)) none) (cond (Nat.beq pc 41) (some (.iinc 2 1, 3)) none)) (cond (Nat.ble pc 44) (cond (Nat.beq pc 44) (some (.goto (-35), 3)) none) (cond (Nat.beq pc 47) (some (.return_, 1)) none))))))
theorem tkX4_ends : tkAll cX4_ends tbX4_ends := fun pc => (tk_b (tk_b (tk_b (tk_b (tk_l dX4_ends_0) (tk_b (tk_l dX4_ends_1) (tk_l dX4_ends_4))) (tk_b (tk_b (tk_l dX4_ends_5) (tk_l dX4_ends_6)) (tk_b (tk_l dX4_ends_7) (tk_l dX4_ends_8)))) (tk_b (tk_b (tk_l dX4_ends_9) (tk_b (tk_l dX4_ends_10) (tk_l dX4_ends_12))) (tk_b (tk_b (tk_l dX4_ends_15) (tk_l dX4_ends_16)) (tk_b (tk_l dX4_ends_19) (tk_l dX4_ends_20))))) (tk_b (tk_b (tk_b (tk_l dX4_ends_21) (tk_b (tk_l dX4_ends_24) (tk_l dX4_ends_25))) (tk_b (tk_b (tk_l dX4_ends_26) (tk_l dX4_ends_27)) (tk_b (tk_l dX4_ends_30) (tk_l dX4_ends_31)))) (tk_b (tk_b (tk_b (tk_l dX4_ends_34) (tk_l dX4_ends_35)) (tk_b (tk_l dX4_ends_38) (tk_l dX4_ends_39))) (tk_b (tk_b (tk_l dX4_ends_40) (tk_l dX4_ends_41)) (tk_b (tk_l dX4_ends_44) (tk_l dX4_ends_47))))))
def tbX4_callOf (pc : Nat) : Option (Instr × Nat) := (cond (Nat.ble pc 14) (cond (Nat.ble pc 3) (cond (Nat.ble pc 1) (cond (Nat.ble pc 0) (cond (Nat.beq pc 0) (some (.aload_n 0, 1)) none) (cond (Nat.beq pc 1) (some (.iload_n 1, 1)) none)) (cond (Nat.ble pc 2) (cond (Nat.beq pc 2) (some (.iconst 0, 1)) none) (cond (Nat.beq pc 3) (some (.iconst 5, 1)) none))) (cond (Nat.ble pc 7) (cond (Nat.ble pc 4) (cond (Nat.beq pc 4) (some (.invokestatic 84, 3)) none) (cond (Nat.beq pc 7) (some (.ifCond .eq 7, 3)) none)) (cond (Nat.ble pc 10) (cond (Nat.beq pc 10) (some (.iconst 0, 1)) none) (cond (Nat.ble pc 11) (cond (Nat.beq pc 11) (some (.goto 4, 3)) none) (cond (Nat.beq pc 14) (some (.iconst 1, 1)) none))))) (cond (Nat.ble pc 25) (cond (Nat.ble pc 18) (cond (Nat.ble pc 15) (cond (Nat.beq pc 15) (some (.putfield 80, 3)) none) (cond (Nat.beq pc 18) (some (.aload_n 0, 1)) none)) (cond (Nat.ble pc 19) (cond (Nat.beq pc 19) (some (.getfield 80, 3)) none) (cond (Nat.ble pc 22) (cond (Nat.beq pc 22) (some (.ifCond .le 7, 3)) none) (cond (Nat.beq pc 25) (some (.iconst 0, 1)) none)))) (cond (Nat.ble pc 29) (cond (Nat.ble pc 26) (cond (Nat.beq pc 26) (some (.goto 8, 3)) none) (cond (Nat.beq pc 29) (some (.aload_n 0, 1)) none)) (cond (Nat.ble pc 30) (cond (Nat.beq pc 30) (some (.iload_n 1, 1)) none) (cond (Nat.ble pc 31) (cond (Nat.beq pc 31) (some (.invokevirtual 132, 3)) none) (cond (Nat.beq pc 34) (some (.ireturn, 1)) none))))))
theorem tkX4_callOf : tkAll cX4_callOf tbX4_callOf := fun pc => (tk_b (tk_b (tk_b (tk_b (tk_l dX4_callOf_0) (tk_l dX4_callOf_1)) (tk_b (tk_l dX4_callOf_2) (tk_l dX4_callOf_3))) (tk_b (tk_b (tk_l dX4_callOf_4) (tk_l dX4_callOf_7)) (tk_b (tk_l dX4_callOf_10) (tk_b (tk_l dX4_callOf_11) (tk_l dX4_callOf_14))))) (tk_b (tk_b (tk_b (tk_l dX4_callOf_15) (tk_l dX4_callOf_18)) (tk_b (tk_l dX4_callOf_19) (tk_b (tk_l dX4_callOf_22) (tk_l dX4_callOf_25)))) (tk_b (tk_b (tk_l dX4_callOf_26) (tk_l dX4_callOf_29)) (tk_b (tk_l dX4_callOf_30) (tk_b (tk_l dX4_callOf_31) (tk_l dX4_callOf_34))))))
def tbX4_way (pc : Nat) : Option (Instr × Nat) := (cond (Nat.ble pc 34) (cond (Nat.ble pc 17) (cond (Nat.ble pc 6) (cond (Nat.ble pc 1) (cond (Nat.ble pc 0) (cond (Nat.beq pc 0) (some (.aload_n 0, 1)) none) (cond (Nat.beq pc 1) (some (.aload_n 0, 1)) none)) (cond (Nat.ble pc 2) (cond (Nat.beq pc 2) (some (.iload_n 1, 1)) none) (cond (Nat.ble pc 3) (cond (Nat.beq pc 3) (some (.invokevirtual 148, 3)) none) (cond (Nat.beq pc 6) (some (.ifCond .ne 7, 3)) none)))) (cond (Nat.ble pc 10) (cond (Nat.ble pc 9) (cond (Nat.beq pc 9) (some (.iconst 1, 1)) none) (cond (Nat.beq pc 10) (some (.goto 17, 3)) none)) (cond (Nat.ble pc 13) (cond (Nat.beq pc 13) (some (.aload_n 0, 1)) none) (cond (Nat.ble pc 14) (cond (Nat.beq pc 14) (some (.getfield 40, 3)) none) (cond (Nat.beq pc 17) (some (.iload_n 1, 1)) none))))) (cond (Nat.ble pc 26) (cond (Nat.ble pc 19) (cond (Nat.ble pc 18) (cond (Nat.beq pc 18) (some (.baload, 1)) none) (cond (Nat.beq pc 19) (some (.ifCond .eq 7, 3)) none)) (cond (Nat.ble pc 22) (cond (Nat.beq pc 22) (some (.iconst 0, 1)) none) (cond (Nat.ble pc 23) (cond (Nat.beq pc 23) (some (.goto 4, 3)) none) (cond (Nat.beq pc 26) (some (.iconst 2, 1)) none)))) (cond (Nat.ble pc 31) (cond (Nat.ble pc 27) (cond (Nat.beq pc 27) (some (.putfield 80, 3)) none) (cond (Nat.ble pc 30) (cond (Nat.beq pc 30) (some (.iconst 0, 1)) none) (cond (Nat.beq pc 31) (some (.istore_n 2, 1)) none))) (cond (Nat.ble pc 32) (cond (Nat.beq pc 32) (some (.iconst 0, 1)) none) (cond (Nat.ble pc 33) (cond (Nat.beq pc 33) (some (.istore_n 3, 1)) none) (cond (Nat.beq pc 34) (some (.iload_n 3, 1)) none)))))) (cond (Nat.ble pc 53) (cond (Nat.ble pc 44) (cond (Nat.ble pc 37) (cond (Nat.ble pc 35) (cond (Nat.beq pc 35) (some (.bipush 6, 2)) none) (cond (Nat.beq pc 37) (some (.if_icmp .ge 34, 3)) none)) (cond (Nat.ble pc 40) (cond (Nat.beq pc 40) (some (.aload_n 0, 1)) none) (cond (Nat.ble pc 41) (cond (Nat.beq pc 41) (some (.getfield 80, 3)) none) (cond (Nat.beq pc 44) (some (.ifCond .ne 27, 3)) none)))) (cond (Nat.ble pc 48) (cond (Nat.ble pc 47) (cond (Nat.beq pc 47) (some (.iload_n 2, 1)) none) (cond (Nat.beq pc 48) (some (.aload_n 0, 1)) none)) (cond (Nat.ble pc 49) (cond (Nat.beq pc 49) (some (.getfield 28, 3)) none) (cond (Nat.ble pc 52) (cond (Nat.beq pc 52) (some (.iload_n 3, 1)) none) (cond (Nat.beq pc 53) (some (.iaload, 1)) none))))) (cond (Nat.ble pc 62) (cond (Nat.ble pc 55) (cond (Nat.ble pc 54) (cond (Nat.beq pc 54) (some (.iload_n 1, 1)) none) (cond (Nat.beq pc 55) (some (.if_icmp .ne 7, 3)) none)) (cond (Nat.ble pc 58) (cond (Nat.beq pc 58) (some (.iconst 1, 1)) none) (cond (Nat.ble pc 59) (cond (Nat.beq pc 59) (some (.goto 4, 3)) none) (cond (Nat.beq pc 62) (some (.iconst 0, 1)) none)))) (cond (Nat.ble pc 65) (cond (Nat.ble pc 63) (cond (Nat.beq pc 63) (some (.iadd, 1)) none) (cond (Nat.ble pc 64) (cond (Nat.beq pc 64) (some (.istore_n 2, 1)) none) (cond (Nat.beq pc 65) (some (.iinc 3 1, 3)) none))) (cond (Nat.ble pc 68) (cond (Nat.beq pc 68) (some (.goto (-34), 3)) none) (cond (Nat.ble pc 71) (cond (Nat.beq pc 71) (some (.iload_n 2, 1)) none) (cond (Nat.beq pc 72) (some (.ireturn, 1)) none)))))))
theorem tkX4_way : tkAll cX4_way tbX4_way := fun pc => (tk_b (tk_b (tk_b (tk_b (tk_b (tk_l dX4_way_0) (tk_l dX4_way_1)) (tk_b (tk_l dX4_way_2) (tk_b (tk_l dX4_way_3) (tk_l dX4_way_6)))) (tk_b (tk_b (tk_l dX4_way_9) (tk_l dX4_way_10)) (tk_b (tk_l dX4_way_13) (tk_b (tk_l dX4_way_14) (tk_l dX4_way_17))))) (tk_b (tk_b (tk_b (tk_l dX4_way_18) (tk_l dX4_way_19)) (tk_b (tk_l dX4_way_22) (tk_b (tk_l dX4_way_23) (tk_l dX4_way_26)))) (tk_b (tk_b (tk_l dX4_way_27) (tk_b (tk_l dX4_way_30) (tk_l dX4_way_31))) (tk_b (tk_l dX4_way_32) (tk_b (tk_l dX4_way_33) (tk_l dX4_way_34)))))) (tk_b (tk_b (tk_b (tk_b (tk_l dX4_way_35) (tk_l dX4_way_37)) (tk_b (tk_l dX4_way_40) (tk_b (tk_l dX4_way_41) (tk_l dX4_way_44)))) (tk_b (tk_b (tk_l dX4_way_47) (tk_l dX4_way_48)) (tk_b (tk_l dX4_way_49) (tk_b (tk_l dX4_way_52) (tk_l dX4_way_53))))) (tk_b (tk_b (tk_b (tk_l dX4_way_54) (tk_l dX4_way_55)) (tk_b (tk_l dX4_way_58) (tk_b (tk_l dX4_way_59) (tk_l dX4_way_62)))) (tk_b (tk_b (tk_l dX4_way_63) (tk_b (tk_l dX4_way_64) (tk_l dX4_way_65))) (tk_b (tk_l dX4_way_68) (tk_b (tk_l dX4_way_71) (tk_l dX4_way_72)))))))
def tbX4_busy (pc : Nat) : Option (Instr × Nat) := (cond (Nat.ble pc 2) (cond (Nat.ble pc 0) (cond (Nat.beq pc 0) (some (.aload_n 0, 1)) none) (cond (Nat.ble pc 1) (cond (Nat.beq pc 1) (some (.iconst 0, 1)) none) (cond (Nat.beq pc 2) (some (.putfield 80, 3)) none))) (cond (Nat.ble pc 5) (cond (Nat.beq pc 5) (some (.aload_n 0, 1)) none) (cond (Nat.ble pc 6) (cond (Nat.beq pc 6) (some (.getfield 142, 3)) none) (cond (Nat.beq pc 9) (some (.ireturn, 1)) none))))
theorem tkX4_busy : tkAll cX4_busy tbX4_busy := fun pc => (tk_b (tk_b (tk_l dX4_busy_0) (tk_b (tk_l dX4_busy_1) (tk_l dX4_busy_2))) (tk_b (tk_l dX4_busy_5) (tk_b (tk_l dX4_busy_6) (tk_l dX4_busy_9))))
def tbX4_cut (pc : Nat) : Option (Instr × Nat) := (cond (Nat.ble pc 65) (cond (Nat.ble pc 31) (cond (Nat.ble pc 14) (cond (Nat.ble pc 3) (cond (Nat.ble pc 1) (cond (Nat.ble pc 0) (cond (Nat.beq pc 0) (some (.aload_n 0, 1)) none) (cond (Nat.beq pc 1) (some (.iload_n 1, 1)) none)) (cond (Nat.ble pc 2) (cond (Nat.beq pc 2) (some (.iload_n 2, 1)) none) (cond (Nat.beq pc 3) (some (.iload_n 3, 1)) none))) (cond (Nat.ble pc 7) (cond (Nat.ble pc 4) (cond (Nat.beq pc 4) (some (.invokestatic 168, 3)) none) (cond (Nat.beq pc 7) (some (.ifCond .ne 7, 3)) none)) (cond (Nat.ble pc 10) (cond (Nat.beq pc 10) (some (.iconst 1, 1)) none) (cond (Nat.ble pc 11) (cond (Nat.beq pc 11) (some (.goto 25, 3)) none) (cond (Nat.beq pc 14) (some (.aload_n 0, 1)) none))))) (cond (Nat.ble pc 23) (cond (Nat.ble pc 18) (cond (Nat.ble pc 15) (cond (Nat.beq pc 15) (some (.getfield 28, 3)) none) (cond (Nat.beq pc 18) (some (.iload_n 1, 1)) none)) (cond (Nat.ble pc 19) (cond (Nat.beq pc 19) (some (.iload_n 2, 1)) none) (cond (Nat.ble pc 20) (cond (Nat.beq pc 20) (some (.invokestatic 125, 3)) none) (cond (Nat.beq pc 23) (some (.iload_n 3, 1)) none)))) (cond (Nat.ble pc 25) (cond (Nat.ble pc 24) (cond (Nat.beq pc 24) (some (.iadd, 1)) none) (cond (Nat.beq pc 25) (some (.iaload, 1)) none)) (cond (Nat.ble pc 26) (cond (Nat.beq pc 26) (some (.bipush (-2), 2)) none) (cond (Nat.ble pc 28) (cond (Nat.beq pc 28) (some (.if_icmp .ne 7, 3)) none) (cond (Nat.beq pc 31) (some (.iconst 2, 1)) none)))))) (cond (Nat.ble pc 49) (cond (Nat.ble pc 40) (cond (Nat.ble pc 35) (cond (Nat.ble pc 32) (cond (Nat.beq pc 32) (some (.goto 4, 3)) none) (cond (Nat.beq pc 35) (some (.iconst 0, 1)) none)) (cond (Nat.ble pc 36) (cond (Nat.beq pc 36) (some (.putfield 80, 3)) none) (cond (Nat.ble pc 39) (cond (Nat.beq pc 39) (some (.aload_n 0, 1)) none) (cond (Nat.beq pc 40) (some (.getfield 80, 3)) none)))) (cond (Nat.ble pc 46) (cond (Nat.ble pc 43) (cond (Nat.beq pc 43) (some (.ifCond .le 5, 3)) none) (cond (Nat.beq pc 46) (some (.iconst 0, 1)) none)) (cond (Nat.ble pc 47) (cond (Nat.beq pc 47) (some (.ireturn, 1)) none) (cond (Nat.ble pc 48) (cond (Nat.beq pc 48) (some (.aload_n 0, 1)) none) (cond (Nat.beq pc 49) (some (.getfield 28, 3)) none))))) (cond (Nat.ble pc 58) (cond (Nat.ble pc 53) (cond (Nat.ble pc 52) (cond (Nat.beq pc 52) (some (.iload_n 1, 1)) none) (cond (Nat.beq pc 53) (some (.iload_n 2, 1)) none)) (cond (Nat.ble pc 54) (cond (Nat.beq pc 54) (some (.invokestatic 125, 3)) none) (cond (Nat.ble pc 57) (cond (Nat.beq pc 57) (some (.iload_n 3, 1)) none) (cond (Nat.beq pc 58) (some (.iadd, 1)) none)))) (cond (Nat.ble pc 60) (cond (Nat.ble pc 59) (cond (Nat.beq pc 59) (some (.iaload, 1)) none) (cond (Nat.beq pc 60) (some (.istore 4, 2)) none)) (cond (Nat.ble pc 62) (cond (Nat.beq pc 62) (some (.iload 4, 2)) none) (cond (Nat.ble pc 64) (cond (Nat.beq pc 64) (some (.iconst (-1), 1)) none) (cond (Nat.beq pc 65) (some (.if_icmp .eq 52, 3)) none))))))) (cond (Nat.ble pc 99) (cond (Nat.ble pc 82) (cond (Nat.ble pc 74) (cond (Nat.ble pc 69) (cond (Nat.ble pc 68) (cond (Nat.beq pc 68) (some (.aload_n 0, 1)) none) (cond (Nat.beq pc 69) (some (.iload 4, 2)) none)) (cond (Nat.ble pc 71) (cond (Nat.beq pc 71) (some (.invokevirtual 164, 3)) none) (cond (Nat.beq pc 74) (some (.aload_n 0, 1)) none))) (cond (Nat.ble pc 78) (cond (Nat.ble pc 75) (cond (Nat.beq pc 75) (some (.getfield 44, 3)) none) (cond (Nat.beq pc 78) (some (.iload 4, 2)) none)) (cond (Nat.ble pc 80) (cond (Nat.beq pc 80) (some (.iaload, 1)) none) (cond (Nat.ble pc 81) (cond (Nat.beq pc 81) (some (.iconst (-1), 1)) none) (cond (Nat.beq pc 82) (some (.if_icmp .eq 35, 3)) none))))) (cond (Nat.ble pc 93) (cond (Nat.ble pc 86) (cond (Nat.ble pc 85) (cond (Nat.beq pc 85) (some (.aload_n 0, 1)) none) (cond (Nat.beq pc 86) (some (.getfield 47, 3)) none)) (cond (Nat.ble pc 89) (cond (Nat.beq pc 89) (some (.aload_n 0, 1)) none) (cond (Nat.ble pc 90) (cond (Nat.beq pc 90) (some (.getfield 44, 3)) none) (cond (Nat.beq pc 93) (some (.iload 4, 2)) none)))) (cond (Nat.ble pc 96) (cond (Nat.ble pc 95) (cond (Nat.beq pc 95) (some (.iaload, 1)) none) (cond (Nat.beq pc 96) (some (.iconst 1, 1)) none)) (cond (Nat.ble pc 97) (cond (Nat.beq pc 97) (some (.iastore, 1)) none) (cond (Nat.ble pc 98) (cond (Nat.beq pc 98) (some (.aload_n 0, 1)) none) (cond (Nat.beq pc 99) (some (.getfield 59, 3)) none)))))) (cond (Nat.ble pc 117) (cond (Nat.ble pc 109) (cond (Nat.ble pc 103) (cond (Nat.ble pc 102) (cond (Nat.beq pc 102) (some (.aload_n 0, 1)) none) (cond (Nat.beq pc 103) (some (.getfield 44, 3)) none)) (cond (Nat.ble pc 106) (cond (Nat.beq pc 106) (some (.iload 4, 2)) none) (cond (Nat.ble pc 108) (cond (Nat.beq pc 108) (some (.iaload, 1)) none) (cond (Nat.beq pc 109) (some (.aload_n 0, 1)) none)))) (cond (Nat.ble pc 113) (cond (Nat.ble pc 110) (cond (Nat.beq pc 110) (some (.getfield 171, 3)) none) (cond (Nat.beq pc 113) (some (.bipush 10, 2)) none)) (cond (Nat.ble pc 115) (cond (Nat.beq pc 115) (some (.iadd, 1)) none) (cond (Nat.ble pc 116) (cond (Nat.beq pc 116) (some (.iastore, 1)) none) (cond (Nat.beq pc 117) (some (.aload_n 0, 1)) none))))) (cond (Nat.ble pc 126) (cond (Nat.ble pc 121) (cond (Nat.ble pc 118) (cond (Nat.beq pc 118) (some (.getfield 28, 3)) none) (cond (Nat.beq pc 121) (some (.iload_n 1, 1)) none)) (cond (Nat.ble pc 122) (cond (Nat.beq pc 122) (some (.iload_n 2, 1)) none) (cond (Nat.ble pc 123) (cond (Nat.beq pc 123) (some (.invokestatic 125, 3)) none) (cond (Nat.beq pc 126) (some (.iload_n 3, 1)) none)))) (cond (Nat.ble pc 128) (cond (Nat.ble pc 127) (cond (Nat.beq pc 127) (some (.iadd, 1)) none) (cond (Nat.beq pc 128) (some (.bipush (-2), 2)) none)) (cond (Nat.ble pc 130) (cond (Nat.beq pc 130) (some (.iastore, 1)) none) (cond (Nat.ble pc 131) (cond (Nat.beq pc 131) (some (.iload 4, 2)) none) (cond (Nat.beq pc 133) (some (.ireturn, 1)) none))))))))
theorem tkX4_cut : tkAll cX4_cut tbX4_cut := fun pc => (tk_b (tk_b (tk_b (tk_b (tk_b (tk_b (tk_l dX4_cut_0) (tk_l dX4_cut_1)) (tk_b (tk_l dX4_cut_2) (tk_l dX4_cut_3))) (tk_b (tk_b (tk_l dX4_cut_4) (tk_l dX4_cut_7)) (tk_b (tk_l dX4_cut_10) (tk_b (tk_l dX4_cut_11) (tk_l dX4_cut_14))))) (tk_b (tk_b (tk_b (tk_l dX4_cut_15) (tk_l dX4_cut_18)) (tk_b (tk_l dX4_cut_19) (tk_b (tk_l dX4_cut_20) (tk_l dX4_cut_23)))) (tk_b (tk_b (tk_l dX4_cut_24) (tk_l dX4_cut_25)) (tk_b (tk_l dX4_cut_26) (tk_b (tk_l dX4_cut_28) (tk_l dX4_cut_31)))))) (tk_b (tk_b (tk_b (tk_b (tk_l dX4_cut_32) (tk_l dX4_cut_35)) (tk_b (tk_l dX4_cut_36) (tk_b (tk_l dX4_cut_39) (tk_l dX4_cut_40)))) (tk_b (tk_b (tk_l dX4_cut_43) (tk_l dX4_cut_46)) (tk_b (tk_l dX4_cut_47) (tk_b (tk_l dX4_cut_48) (tk_l dX4_cut_49))))) (tk_b (tk_b (tk_b (tk_l dX4_cut_52) (tk_l dX4_cut_53)) (tk_b (tk_l dX4_cut_54) (tk_b (tk_l dX4_cut_57) (tk_l dX4_cut_58)))) (tk_b (tk_b (tk_l dX4_cut_59) (tk_l dX4_cut_60)) (tk_b (tk_l dX4_cut_62) (tk_b (tk_l dX4_cut_64) (tk_l dX4_cut_65))))))) (tk_b (tk_b (tk_b (tk_b (tk_b (tk_l dX4_cut_68) (tk_l dX4_cut_69)) (tk_b (tk_l dX4_cut_71) (tk_l dX4_cut_74))) (tk_b (tk_b (tk_l dX4_cut_75) (tk_l dX4_cut_78)) (tk_b (tk_l dX4_cut_80) (tk_b (tk_l dX4_cut_81) (tk_l dX4_cut_82))))) (tk_b (tk_b (tk_b (tk_l dX4_cut_85) (tk_l dX4_cut_86)) (tk_b (tk_l dX4_cut_89) (tk_b (tk_l dX4_cut_90) (tk_l dX4_cut_93)))) (tk_b (tk_b (tk_l dX4_cut_95) (tk_l dX4_cut_96)) (tk_b (tk_l dX4_cut_97) (tk_b (tk_l dX4_cut_98) (tk_l dX4_cut_99)))))) (tk_b (tk_b (tk_b (tk_b (tk_l dX4_cut_102) (tk_l dX4_cut_103)) (tk_b (tk_l dX4_cut_106) (tk_b (tk_l dX4_cut_108) (tk_l dX4_cut_109)))) (tk_b (tk_b (tk_l dX4_cut_110) (tk_l dX4_cut_113)) (tk_b (tk_l dX4_cut_115) (tk_b (tk_l dX4_cut_116) (tk_l dX4_cut_117))))) (tk_b (tk_b (tk_b (tk_l dX4_cut_118) (tk_l dX4_cut_121)) (tk_b (tk_l dX4_cut_122) (tk_b (tk_l dX4_cut_123) (tk_l dX4_cut_126)))) (tk_b (tk_b (tk_l dX4_cut_127) (tk_l dX4_cut_128)) (tk_b (tk_l dX4_cut_130) (tk_b (tk_l dX4_cut_131) (tk_l dX4_cut_133))))))))
def tbX4_isTrunk (pc : Nat) : Option (Instr × Nat) := (cond (Nat.ble pc 16) (cond (Nat.ble pc 7) (cond (Nat.ble pc 1) (cond (Nat.ble pc 0) (cond (Nat.beq pc 0) (some (.iload_n 0, 1)) none) (cond (Nat.beq pc 1) (some (.invokestatic 88, 3)) none)) (cond (Nat.ble pc 4) (cond (Nat.beq pc 4) (some (.ifCond .eq 28, 3)) none) (cond (Nat.beq pc 7) (some (.iload_n 1, 1)) none))) (cond (Nat.ble pc 11) (cond (Nat.ble pc 8) (cond (Nat.beq pc 8) (some (.invokestatic 88, 3)) none) (cond (Nat.beq pc 11) (some (.ifCond .eq 21, 3)) none)) (cond (Nat.ble pc 14) (cond (Nat.beq pc 14) (some (.iload_n 0, 1)) none) (cond (Nat.ble pc 15) (cond (Nat.beq pc 15) (some (.iload_n 1, 1)) none) (cond (Nat.beq pc 16) (some (.if_icmp .eq 16, 3)) none))))) (cond (Nat.ble pc 22) (cond (Nat.ble pc 20) (cond (Nat.ble pc 19) (cond (Nat.beq pc 19) (some (.iload_n 2, 1)) none) (cond (Nat.beq pc 20) (some (.iconst 0, 1)) none)) (cond (Nat.ble pc 21) (cond (Nat.beq pc 21) (some (.iconst 1, 1)) none) (cond (Nat.beq pc 22) (some (.invokestatic 84, 3)) none))) (cond (Nat.ble pc 28) (cond (Nat.ble pc 25) (cond (Nat.beq pc 25) (some (.ifCond .eq 7, 3)) none) (cond (Nat.beq pc 28) (some (.iconst 1, 1)) none)) (cond (Nat.ble pc 29) (cond (Nat.beq pc 29) (some (.goto 4, 3)) none) (cond (Nat.ble pc 32) (cond (Nat.beq pc 32) (some (.iconst 0, 1)) none) (cond (Nat.beq pc 33) (some (.ireturn, 1)) none))))))
theorem tkX4_isTrunk : tkAll cX4_isTrunk tbX4_isTrunk := fun pc => (tk_b (tk_b (tk_b (tk_b (tk_l dX4_isTrunk_0) (tk_l dX4_isTrunk_1)) (tk_b (tk_l dX4_isTrunk_4) (tk_l dX4_isTrunk_7))) (tk_b (tk_b (tk_l dX4_isTrunk_8) (tk_l dX4_isTrunk_11)) (tk_b (tk_l dX4_isTrunk_14) (tk_b (tk_l dX4_isTrunk_15) (tk_l dX4_isTrunk_16))))) (tk_b (tk_b (tk_b (tk_l dX4_isTrunk_19) (tk_l dX4_isTrunk_20)) (tk_b (tk_l dX4_isTrunk_21) (tk_l dX4_isTrunk_22))) (tk_b (tk_b (tk_l dX4_isTrunk_25) (tk_l dX4_isTrunk_28)) (tk_b (tk_l dX4_isTrunk_29) (tk_b (tk_l dX4_isTrunk_32) (tk_l dX4_isTrunk_33))))))
def tbX4_mend (pc : Nat) : Option (Instr × Nat) := (cond (Nat.ble pc 26) (cond (Nat.ble pc 11) (cond (Nat.ble pc 3) (cond (Nat.ble pc 1) (cond (Nat.ble pc 0) (cond (Nat.beq pc 0) (some (.aload_n 0, 1)) none) (cond (Nat.beq pc 1) (some (.iload_n 1, 1)) none)) (cond (Nat.ble pc 2) (cond (Nat.beq pc 2) (some (.iload_n 2, 1)) none) (cond (Nat.beq pc 3) (some (.iload_n 3, 1)) none))) (cond (Nat.ble pc 7) (cond (Nat.ble pc 4) (cond (Nat.beq pc 4) (some (.invokestatic 168, 3)) none) (cond (Nat.beq pc 7) (some (.ifCond .ne 7, 3)) none)) (cond (Nat.ble pc 10) (cond (Nat.beq pc 10) (some (.iconst 1, 1)) none) (cond (Nat.beq pc 11) (some (.goto 25, 3)) none)))) (cond (Nat.ble pc 19) (cond (Nat.ble pc 15) (cond (Nat.ble pc 14) (cond (Nat.beq pc 14) (some (.aload_n 0, 1)) none) (cond (Nat.beq pc 15) (some (.getfield 28, 3)) none)) (cond (Nat.ble pc 18) (cond (Nat.beq pc 18) (some (.iload_n 1, 1)) none) (cond (Nat.beq pc 19) (some (.iload_n 2, 1)) none))) (cond (Nat.ble pc 23) (cond (Nat.ble pc 20) (cond (Nat.beq pc 20) (some (.invokestatic 125, 3)) none) (cond (Nat.beq pc 23) (some (.iload_n 3, 1)) none)) (cond (Nat.ble pc 24) (cond (Nat.beq pc 24) (some (.iadd, 1)) none) (cond (Nat.ble pc 25) (cond (Nat.beq pc 25) (some (.iaload, 1)) none) (cond (Nat.beq pc 26) (some (.bipush (-2), 2)) none)))))) (cond (Nat.ble pc 46) (cond (Nat.ble pc 35) (cond (Nat.ble pc 31) (cond (Nat.ble pc 28) (cond (Nat.beq pc 28) (some (.if_icmp .eq 7, 3)) none) (cond (Nat.beq pc 31) (some (.iconst 2, 1)) none)) (cond (Nat.ble pc 32) (cond (Nat.beq pc 32) (some (.goto 4, 3)) none) (cond (Nat.beq pc 35) (some (.iconst 0, 1)) none))) (cond (Nat.ble pc 39) (cond (Nat.ble pc 36) (cond (Nat.beq pc 36) (some (.putfield 80, 3)) none) (cond (Nat.beq pc 39) (some (.aload_n 0, 1)) none)) (cond (Nat.ble pc 40) (cond (Nat.beq pc 40) (some (.getfield 80, 3)) none) (cond (Nat.ble pc 43) (cond (Nat.beq pc 43) (some (.ifCond .ne 16, 3)) none) (cond (Nat.beq pc 46) (some (.aload_n 0, 1)) none))))) (cond (Nat.ble pc 52) (cond (Nat.ble pc 50) (cond (Nat.ble pc 47) (cond (Nat.beq pc 47) (some (.getfield 28, 3)) none) (cond (Nat.beq pc 50) (some (.iload_n 1, 1)) none)) (cond (Nat.ble pc 51) (cond (Nat.beq pc 51) (some (.iload_n 2, 1)) none) (cond (Nat.beq pc 52) (some (.invokestatic 125, 3)) none))) (cond (Nat.ble pc 56) (cond (Nat.ble pc 55) (cond (Nat.beq pc 55) (some (.iload_n 3, 1)) none) (cond (Nat.beq pc 56) (some (.iadd, 1)) none)) (cond (Nat.ble pc 57) (cond (Nat.beq pc 57) (some (.iconst (-1), 1)) none) (cond (Nat.ble pc 58) (cond (Nat.beq pc 58) (some (.iastore, 1)) none) (cond (Nat.beq pc 59) (some (.return_, 1)) none)))))))
theorem tkX4_mend : tkAll cX4_mend tbX4_mend := fun pc => (tk_b (tk_b (tk_b (tk_b (tk_b (tk_l dX4_mend_0) (tk_l dX4_mend_1)) (tk_b (tk_l dX4_mend_2) (tk_l dX4_mend_3))) (tk_b (tk_b (tk_l dX4_mend_4) (tk_l dX4_mend_7)) (tk_b (tk_l dX4_mend_10) (tk_l dX4_mend_11)))) (tk_b (tk_b (tk_b (tk_l dX4_mend_14) (tk_l dX4_mend_15)) (tk_b (tk_l dX4_mend_18) (tk_l dX4_mend_19))) (tk_b (tk_b (tk_l dX4_mend_20) (tk_l dX4_mend_23)) (tk_b (tk_l dX4_mend_24) (tk_b (tk_l dX4_mend_25) (tk_l dX4_mend_26)))))) (tk_b (tk_b (tk_b (tk_b (tk_l dX4_mend_28) (tk_l dX4_mend_31)) (tk_b (tk_l dX4_mend_32) (tk_l dX4_mend_35))) (tk_b (tk_b (tk_l dX4_mend_36) (tk_l dX4_mend_39)) (tk_b (tk_l dX4_mend_40) (tk_b (tk_l dX4_mend_43) (tk_l dX4_mend_46))))) (tk_b (tk_b (tk_b (tk_l dX4_mend_47) (tk_l dX4_mend_50)) (tk_b (tk_l dX4_mend_51) (tk_l dX4_mend_52))) (tk_b (tk_b (tk_l dX4_mend_55) (tk_l dX4_mend_56)) (tk_b (tk_l dX4_mend_57) (tk_b (tk_l dX4_mend_58) (tk_l dX4_mend_59)))))))
def tbX4_trunk (pc : Nat) : Option (Instr × Nat) := (cond (Nat.ble pc 19) (cond (Nat.ble pc 7) (cond (Nat.ble pc 2) (cond (Nat.ble pc 0) (cond (Nat.beq pc 0) (some (.aload_n 0, 1)) none) (cond (Nat.ble pc 1) (cond (Nat.beq pc 1) (some (.iload_n 1, 1)) none) (cond (Nat.beq pc 2) (some (.iload_n 2, 1)) none))) (cond (Nat.ble pc 3) (cond (Nat.beq pc 3) (some (.iload_n 3, 1)) none) (cond (Nat.ble pc 4) (cond (Nat.beq pc 4) (some (.invokestatic 168, 3)) none) (cond (Nat.beq pc 7) (some (.ifCond .eq 7, 3)) none)))) (cond (Nat.ble pc 14) (cond (Nat.ble pc 10) (cond (Nat.beq pc 10) (some (.iconst 0, 1)) none) (cond (Nat.ble pc 11) (cond (Nat.beq pc 11) (some (.goto 4, 3)) none) (cond (Nat.beq pc 14) (some (.iconst 1, 1)) none))) (cond (Nat.ble pc 15) (cond (Nat.beq pc 15) (some (.putfield 80, 3)) none) (cond (Nat.ble pc 18) (cond (Nat.beq pc 18) (some (.aload_n 0, 1)) none) (cond (Nat.beq pc 19) (some (.getfield 80, 3)) none))))) (cond (Nat.ble pc 33) (cond (Nat.ble pc 26) (cond (Nat.ble pc 22) (cond (Nat.beq pc 22) (some (.ifCond .le 7, 3)) none) (cond (Nat.ble pc 25) (cond (Nat.beq pc 25) (some (.iconst 0, 1)) none) (cond (Nat.beq pc 26) (some (.goto 15, 3)) none))) (cond (Nat.ble pc 29) (cond (Nat.beq pc 29) (some (.aload_n 0, 1)) none) (cond (Nat.ble pc 30) (cond (Nat.beq pc 30) (some (.getfield 28, 3)) none) (cond (Nat.beq pc 33) (some (.iload_n 1, 1)) none)))) (cond (Nat.ble pc 38) (cond (Nat.ble pc 34) (cond (Nat.beq pc 34) (some (.iload_n 2, 1)) none) (cond (Nat.ble pc 35) (cond (Nat.beq pc 35) (some (.invokestatic 125, 3)) none) (cond (Nat.beq pc 38) (some (.iload_n 3, 1)) none))) (cond (Nat.ble pc 39) (cond (Nat.beq pc 39) (some (.iadd, 1)) none) (cond (Nat.ble pc 40) (cond (Nat.beq pc 40) (some (.iaload, 1)) none) (cond (Nat.beq pc 41) (some (.ireturn, 1)) none))))))
theorem tkX4_trunk : tkAll cX4_trunk tbX4_trunk := fun pc => (tk_b (tk_b (tk_b (tk_b (tk_l dX4_trunk_0) (tk_b (tk_l dX4_trunk_1) (tk_l dX4_trunk_2))) (tk_b (tk_l dX4_trunk_3) (tk_b (tk_l dX4_trunk_4) (tk_l dX4_trunk_7)))) (tk_b (tk_b (tk_l dX4_trunk_10) (tk_b (tk_l dX4_trunk_11) (tk_l dX4_trunk_14))) (tk_b (tk_l dX4_trunk_15) (tk_b (tk_l dX4_trunk_18) (tk_l dX4_trunk_19))))) (tk_b (tk_b (tk_b (tk_l dX4_trunk_22) (tk_b (tk_l dX4_trunk_25) (tk_l dX4_trunk_26))) (tk_b (tk_l dX4_trunk_29) (tk_b (tk_l dX4_trunk_30) (tk_l dX4_trunk_33)))) (tk_b (tk_b (tk_l dX4_trunk_34) (tk_b (tk_l dX4_trunk_35) (tk_l dX4_trunk_38))) (tk_b (tk_l dX4_trunk_39) (tk_b (tk_l dX4_trunk_40) (tk_l dX4_trunk_41))))))
def tbX4_setLines (pc : Nat) : Option (Instr × Nat) := (cond (Nat.ble pc 31) (cond (Nat.ble pc 14) (cond (Nat.ble pc 5) (cond (Nat.ble pc 1) (cond (Nat.ble pc 0) (cond (Nat.beq pc 0) (some (.aload_n 0, 1)) none) (cond (Nat.beq pc 1) (some (.iload_n 1, 1)) none)) (cond (Nat.ble pc 2) (cond (Nat.beq pc 2) (some (.invokestatic 88, 3)) none) (cond (Nat.beq pc 5) (some (.ifCond .eq 12, 3)) none))) (cond (Nat.ble pc 9) (cond (Nat.ble pc 8) (cond (Nat.beq pc 8) (some (.iload_n 2, 1)) none) (cond (Nat.beq pc 9) (some (.iconst 0, 1)) none)) (cond (Nat.ble pc 10) (cond (Nat.beq pc 10) (some (.iconst 3, 1)) none) (cond (Nat.ble pc 11) (cond (Nat.beq pc 11) (some (.invokestatic 84, 3)) none) (cond (Nat.beq pc 14) (some (.ifCond .ne 7, 3)) none))))) (cond (Nat.ble pc 22) (cond (Nat.ble pc 18) (cond (Nat.ble pc 17) (cond (Nat.beq pc 17) (some (.iconst 1, 1)) none) (cond (Nat.beq pc 18) (some (.goto 17, 3)) none)) (cond (Nat.ble pc 21) (cond (Nat.beq pc 21) (some (.aload_n 0, 1)) none) (cond (Nat.beq pc 22) (some (.iload_n 1, 1)) none))) (cond (Nat.ble pc 26) (cond (Nat.ble pc 23) (cond (Nat.beq pc 23) (some (.invokevirtual 136, 3)) none) (cond (Nat.beq pc 26) (some (.iload_n 2, 1)) none)) (cond (Nat.ble pc 27) (cond (Nat.beq pc 27) (some (.if_icmp .le 7, 3)) none) (cond (Nat.ble pc 30) (cond (Nat.beq pc 30) (some (.iconst 2, 1)) none) (cond (Nat.beq pc 31) (some (.goto 4, 3)) none)))))) (cond (Nat.ble pc 48) (cond (Nat.ble pc 39) (cond (Nat.ble pc 35) (cond (Nat.ble pc 34) (cond (Nat.beq pc 34) (some (.iconst 0, 1)) none) (cond (Nat.beq pc 35) (some (.putfield 80, 3)) none)) (cond (Nat.ble pc 38) (cond (Nat.beq pc 38) (some (.aload_n 0, 1)) none) (cond (Nat.beq pc 39) (some (.getfield 80, 3)) none))) (cond (Nat.ble pc 45) (cond (Nat.ble pc 42) (cond (Nat.beq pc 42) (some (.ifCond .le 5, 3)) none) (cond (Nat.beq pc 45) (some (.iconst 0, 1)) none)) (cond (Nat.ble pc 46) (cond (Nat.beq pc 46) (some (.ireturn, 1)) none) (cond (Nat.ble pc 47) (cond (Nat.beq pc 47) (some (.aload_n 0, 1)) none) (cond (Nat.beq pc 48) (some (.getfield 31, 3)) none))))) (cond (Nat.ble pc 55) (cond (Nat.ble pc 52) (cond (Nat.ble pc 51) (cond (Nat.beq pc 51) (some (.iload_n 1, 1)) none) (cond (Nat.beq pc 52) (some (.iaload, 1)) none)) (cond (Nat.ble pc 53) (cond (Nat.beq pc 53) (some (.istore_n 3, 1)) none) (cond (Nat.ble pc 54) (cond (Nat.beq pc 54) (some (.aload_n 0, 1)) none) (cond (Nat.beq pc 55) (some (.getfield 31, 3)) none)))) (cond (Nat.ble pc 59) (cond (Nat.ble pc 58) (cond (Nat.beq pc 58) (some (.iload_n 1, 1)) none) (cond (Nat.beq pc 59) (some (.iload_n 2, 1)) none)) (cond (Nat.ble pc 60) (cond (Nat.beq pc 60) (some (.iastore, 1)) none) (cond (Nat.ble pc 61) (cond (Nat.beq pc 61) (some (.iload_n 3, 1)) none) (cond (Nat.beq pc 62) (some (.ireturn, 1)) none)))))))
theorem tkX4_setLines : tkAll cX4_setLines tbX4_setLines := fun pc => (tk_b (tk_b (tk_b (tk_b (tk_b (tk_l dX4_setLines_0) (tk_l dX4_setLines_1)) (tk_b (tk_l dX4_setLines_2) (tk_l dX4_setLines_5))) (tk_b (tk_b (tk_l dX4_setLines_8) (tk_l dX4_setLines_9)) (tk_b (tk_l dX4_setLines_10) (tk_b (tk_l dX4_setLines_11) (tk_l dX4_setLines_14))))) (tk_b (tk_b (tk_b (tk_l dX4_setLines_17) (tk_l dX4_setLines_18)) (tk_b (tk_l dX4_setLines_21) (tk_l dX4_setLines_22))) (tk_b (tk_b (tk_l dX4_setLines_23) (tk_l dX4_setLines_26)) (tk_b (tk_l dX4_setLines_27) (tk_b (tk_l dX4_setLines_30) (tk_l dX4_setLines_31)))))) (tk_b (tk_b (tk_b (tk_b (tk_l dX4_setLines_34) (tk_l dX4_setLines_35)) (tk_b (tk_l dX4_setLines_38) (tk_l dX4_setLines_39))) (tk_b (tk_b (tk_l dX4_setLines_42) (tk_l dX4_setLines_45)) (tk_b (tk_l dX4_setLines_46) (tk_b (tk_l dX4_setLines_47) (tk_l dX4_setLines_48))))) (tk_b (tk_b (tk_b (tk_l dX4_setLines_51) (tk_l dX4_setLines_52)) (tk_b (tk_l dX4_setLines_53) (tk_b (tk_l dX4_setLines_54) (tk_l dX4_setLines_55)))) (tk_b (tk_b (tk_l dX4_setLines_58) (tk_l dX4_setLines_59)) (tk_b (tk_l dX4_setLines_60) (tk_b (tk_l dX4_setLines_61) (tk_l dX4_setLines_62)))))))
def tbX4_pass (pc : Nat) : Option (Instr × Nat) := (cond (Nat.ble pc 54) (cond (Nat.ble pc 27) (cond (Nat.ble pc 11) (cond (Nat.ble pc 2) (cond (Nat.ble pc 0) (cond (Nat.beq pc 0) (some (.aload_n 0, 1)) none) (cond (Nat.ble pc 1) (cond (Nat.beq pc 1) (some (.iload_n 1, 1)) none) (cond (Nat.beq pc 2) (some (.iconst 1, 1)) none))) (cond (Nat.ble pc 5) (cond (Nat.ble pc 3) (cond (Nat.beq pc 3) (some (.bipush 100, 2)) none) (cond (Nat.beq pc 5) (some (.invokestatic 84, 3)) none)) (cond (Nat.ble pc 8) (cond (Nat.beq pc 8) (some (.ifCond .ne 7, 3)) none) (cond (Nat.beq pc 11) (some (.iconst 1, 1)) none)))) (cond (Nat.ble pc 19) (cond (Nat.ble pc 15) (cond (Nat.ble pc 12) (cond (Nat.beq pc 12) (some (.goto 20, 3)) none) (cond (Nat.beq pc 15) (some (.aload_n 0, 1)) none)) (cond (Nat.ble pc 16) (cond (Nat.beq pc 16) (some (.getfield 171, 3)) none) (cond (Nat.beq pc 19) (some (.iload_n 1, 1)) none))) (cond (Nat.ble pc 21) (cond (Nat.ble pc 20) (cond (Nat.beq pc 20) (some (.iadd, 1)) none) (cond (Nat.beq pc 21) (some (.sipush 10000, 3)) none)) (cond (Nat.ble pc 24) (cond (Nat.beq pc 24) (some (.if_icmp .le 7, 3)) none) (cond (Nat.beq pc 27) (some (.iconst 2, 1)) none))))) (cond (Nat.ble pc 42) (cond (Nat.ble pc 32) (cond (Nat.ble pc 28) (cond (Nat.beq pc 28) (some (.goto 4, 3)) none) (cond (Nat.ble pc 31) (cond (Nat.beq pc 31) (some (.iconst 0, 1)) none) (cond (Nat.beq pc 32) (some (.putfield 80, 3)) none))) (cond (Nat.ble pc 36) (cond (Nat.ble pc 35) (cond (Nat.beq pc 35) (some (.aload_n 0, 1)) none) (cond (Nat.beq pc 36) (some (.getfield 80, 3)) none)) (cond (Nat.ble pc 39) (cond (Nat.beq pc 39) (some (.ifCond .le 5, 3)) none) (cond (Nat.beq pc 42) (some (.iconst 0, 1)) none)))) (cond (Nat.ble pc 46) (cond (Nat.ble pc 44) (cond (Nat.ble pc 43) (cond (Nat.beq pc 43) (some (.ireturn, 1)) none) (cond (Nat.beq pc 44) (some (.aload_n 0, 1)) none)) (cond (Nat.ble pc 45) (cond (Nat.beq pc 45) (some (.dup, 1)) none) (cond (Nat.beq pc 46) (some (.getfield 171, 3)) none))) (cond (Nat.ble pc 50) (cond (Nat.ble pc 49) (cond (Nat.beq pc 49) (some (.iload_n 1, 1)) none) (cond (Nat.beq pc 50) (some (.iadd, 1)) none)) (cond (Nat.ble pc 51) (cond (Nat.beq pc 51) (some (.putfield 171, 3)) none) (cond (Nat.beq pc 54) (some (.iconst 0, 1)) none)))))) (cond (Nat.ble pc 77) (cond (Nat.ble pc 63) (cond (Nat.ble pc 57) (cond (Nat.ble pc 55) (cond (Nat.beq pc 55) (some (.istore_n 2, 1)) none) (cond (Nat.ble pc 56) (cond (Nat.beq pc 56) (some (.iconst 0, 1)) none) (cond (Nat.beq pc 57) (some (.istore_n 3, 1)) none))) (cond (Nat.ble pc 59) (cond (Nat.ble pc 58) (cond (Nat.beq pc 58) (some (.iload_n 3, 1)) none) (cond (Nat.beq pc 59) (some (.aload_n 0, 1)) none)) (cond (Nat.ble pc 60) (cond (Nat.beq pc 60) (some (.getfield 122, 3)) none) (cond (Nat.beq pc 63) (some (.if_icmp .ge 42, 3)) none)))) (cond (Nat.ble pc 71) (cond (Nat.ble pc 67) (cond (Nat.ble pc 66) (cond (Nat.beq pc 66) (some (.aload_n 0, 1)) none) (cond (Nat.beq pc 67) (some (.getfield 47, 3)) none)) (cond (Nat.ble pc 70) (cond (Nat.beq pc 70) (some (.iload_n 3, 1)) none) (cond (Nat.beq pc 71) (some (.iaload, 1)) none))) (cond (Nat.ble pc 73) (cond (Nat.ble pc 72) (cond (Nat.beq pc 72) (some (.iconst 1, 1)) none) (cond (Nat.beq pc 73) (some (.if_icmp .ne 26, 3)) none)) (cond (Nat.ble pc 76) (cond (Nat.beq pc 76) (some (.aload_n 0, 1)) none) (cond (Nat.beq pc 77) (some (.getfield 59, 3)) none))))) (cond (Nat.ble pc 90) (cond (Nat.ble pc 82) (cond (Nat.ble pc 80) (cond (Nat.beq pc 80) (some (.iload_n 3, 1)) none) (cond (Nat.ble pc 81) (cond (Nat.beq pc 81) (some (.iaload, 1)) none) (cond (Nat.beq pc 82) (some (.aload_n 0, 1)) none))) (cond (Nat.ble pc 86) (cond (Nat.ble pc 83) (cond (Nat.beq pc 83) (some (.getfield 171, 3)) none) (cond (Nat.beq pc 86) (some (.if_icmp .gt 13, 3)) none)) (cond (Nat.ble pc 89) (cond (Nat.beq pc 89) (some (.aload_n 0, 1)) none) (cond (Nat.beq pc 90) (some (.getfield 47, 3)) none)))) (cond (Nat.ble pc 96) (cond (Nat.ble pc 94) (cond (Nat.ble pc 93) (cond (Nat.beq pc 93) (some (.iload_n 3, 1)) none) (cond (Nat.beq pc 94) (some (.iconst 5, 1)) none)) (cond (Nat.ble pc 95) (cond (Nat.beq pc 95) (some (.iastore, 1)) none) (cond (Nat.beq pc 96) (some (.iinc 2 1, 3)) none))) (cond (Nat.ble pc 102) (cond (Nat.ble pc 99) (cond (Nat.beq pc 99) (some (.iinc 3 1, 3)) none) (cond (Nat.beq pc 102) (some (.goto (-44), 3)) none)) (cond (Nat.ble pc 105) (cond (Nat.beq pc 105) (some (.iload_n 2, 1)) none) (cond (Nat.beq pc 106) (some (.ireturn, 1)) none)))))))
theorem tkX4_pass : tkAll cX4_pass tbX4_pass := fun pc => (tk_b (tk_b (tk_b (tk_b (tk_b (tk_l dX4_pass_0) (tk_b (tk_l dX4_pass_1) (tk_l dX4_pass_2))) (tk_b (tk_b (tk_l dX4_pass_3) (tk_l dX4_pass_5)) (tk_b (tk_l dX4_pass_8) (tk_l dX4_pass_11)))) (tk_b (tk_b (tk_b (tk_l dX4_pass_12) (tk_l dX4_pass_15)) (tk_b (tk_l dX4_pass_16) (tk_l dX4_pass_19))) (tk_b (tk_b (tk_l dX4_pass_20) (tk_l dX4_pass_21)) (tk_b (tk_l dX4_pass_24) (tk_l dX4_pass_27))))) (tk_b (tk_b (tk_b (tk_l dX4_pass_28) (tk_b (tk_l dX4_pass_31) (tk_l dX4_pass_32))) (tk_b (tk_b (tk_l dX4_pass_35) (tk_l dX4_pass_36)) (tk_b (tk_l dX4_pass_39) (tk_l dX4_pass_42)))) (tk_b (tk_b (tk_b (tk_l dX4_pass_43) (tk_l dX4_pass_44)) (tk_b (tk_l dX4_pass_45) (tk_l dX4_pass_46))) (tk_b (tk_b (tk_l dX4_pass_49) (tk_l dX4_pass_50)) (tk_b (tk_l dX4_pass_51) (tk_l dX4_pass_54)))))) (tk_b (tk_b (tk_b (tk_b (tk_l dX4_pass_55) (tk_b (tk_l dX4_pass_56) (tk_l dX4_pass_57))) (tk_b (tk_b (tk_l dX4_pass_58) (tk_l dX4_pass_59)) (tk_b (tk_l dX4_pass_60) (tk_l dX4_pass_63)))) (tk_b (tk_b (tk_b (tk_l dX4_pass_66) (tk_l dX4_pass_67)) (tk_b (tk_l dX4_pass_70) (tk_l dX4_pass_71))) (tk_b (tk_b (tk_l dX4_pass_72) (tk_l dX4_pass_73)) (tk_b (tk_l dX4_pass_76) (tk_l dX4_pass_77))))) (tk_b (tk_b (tk_b (tk_l dX4_pass_80) (tk_b (tk_l dX4_pass_81) (tk_l dX4_pass_82))) (tk_b (tk_b (tk_l dX4_pass_83) (tk_l dX4_pass_86)) (tk_b (tk_l dX4_pass_89) (tk_l dX4_pass_90)))) (tk_b (tk_b (tk_b (tk_l dX4_pass_93) (tk_l dX4_pass_94)) (tk_b (tk_l dX4_pass_95) (tk_l dX4_pass_96))) (tk_b (tk_b (tk_l dX4_pass_99) (tk_l dX4_pass_102)) (tk_b (tk_l dX4_pass_105) (tk_l dX4_pass_106)))))))
def tbX4_bookings (pc : Nat) : Option (Instr × Nat) := (cond (Nat.ble pc 2) (cond (Nat.ble pc 0) (cond (Nat.beq pc 0) (some (.aload_n 0, 1)) none) (cond (Nat.ble pc 1) (cond (Nat.beq pc 1) (some (.iconst 0, 1)) none) (cond (Nat.beq pc 2) (some (.putfield 80, 3)) none))) (cond (Nat.ble pc 5) (cond (Nat.beq pc 5) (some (.aload_n 0, 1)) none) (cond (Nat.ble pc 6) (cond (Nat.beq pc 6) (some (.getfield 122, 3)) none) (cond (Nat.beq pc 9) (some (.ireturn, 1)) none))))
theorem tkX4_bookings : tkAll cX4_bookings tbX4_bookings := fun pc => (tk_b (tk_b (tk_l dX4_bookings_0) (tk_b (tk_l dX4_bookings_1) (tk_l dX4_bookings_2))) (tk_b (tk_l dX4_bookings_5) (tk_b (tk_l dX4_bookings_6) (tk_l dX4_bookings_9))))
def tbX4_state (pc : Nat) : Option (Instr × Nat) := (cond (Nat.ble pc 8) (cond (Nat.ble pc 1) (cond (Nat.ble pc 0) (cond (Nat.beq pc 0) (some (.aload_n 0, 1)) none) (cond (Nat.beq pc 1) (some (.iload_n 1, 1)) none)) (cond (Nat.ble pc 2) (cond (Nat.beq pc 2) (some (.invokevirtual 174, 3)) none) (cond (Nat.ble pc 5) (cond (Nat.beq pc 5) (some (.ifCond .eq 12, 3)) none) (cond (Nat.beq pc 8) (some (.aload_n 0, 1)) none)))) (cond (Nat.ble pc 13) (cond (Nat.ble pc 9) (cond (Nat.beq pc 9) (some (.getfield 47, 3)) none) (cond (Nat.ble pc 12) (cond (Nat.beq pc 12) (some (.iload_n 1, 1)) none) (cond (Nat.beq pc 13) (some (.iaload, 1)) none))) (cond (Nat.ble pc 14) (cond (Nat.beq pc 14) (some (.goto 4, 3)) none) (cond (Nat.ble pc 17) (cond (Nat.beq pc 17) (some (.iconst 0, 1)) none) (cond (Nat.beq pc 18) (some (.ireturn, 1)) none)))))
theorem tkX4_state : tkAll cX4_state tbX4_state := fun pc => (tk_b (tk_b (tk_b (tk_l dX4_state_0) (tk_l dX4_state_1)) (tk_b (tk_l dX4_state_2) (tk_b (tk_l dX4_state_5) (tk_l dX4_state_8)))) (tk_b (tk_b (tk_l dX4_state_9) (tk_b (tk_l dX4_state_12) (tk_l dX4_state_13))) (tk_b (tk_l dX4_state_14) (tk_b (tk_l dX4_state_17) (tk_l dX4_state_18)))))
def tbX4_asksBooking (pc : Nat) : Option (Instr × Nat) := (cond (Nat.ble pc 13) (cond (Nat.ble pc 3) (cond (Nat.ble pc 1) (cond (Nat.ble pc 0) (cond (Nat.beq pc 0) (some (.aload_n 0, 1)) none) (cond (Nat.beq pc 1) (some (.aload_n 0, 1)) none)) (cond (Nat.ble pc 2) (cond (Nat.beq pc 2) (some (.iload_n 1, 1)) none) (cond (Nat.beq pc 3) (some (.invokevirtual 158, 3)) none))) (cond (Nat.ble pc 9) (cond (Nat.ble pc 6) (cond (Nat.beq pc 6) (some (.ifCond .eq 7, 3)) none) (cond (Nat.beq pc 9) (some (.iconst 0, 1)) none)) (cond (Nat.ble pc 10) (cond (Nat.beq pc 10) (some (.goto 4, 3)) none) (cond (Nat.beq pc 13) (some (.iconst 1, 1)) none)))) (cond (Nat.ble pc 21) (cond (Nat.ble pc 17) (cond (Nat.ble pc 14) (cond (Nat.beq pc 14) (some (.putfield 80, 3)) none) (cond (Nat.beq pc 17) (some (.aload_n 0, 1)) none)) (cond (Nat.ble pc 18) (cond (Nat.beq pc 18) (some (.getfield 80, 3)) none) (cond (Nat.beq pc 21) (some (.ifCond .ne 7, 3)) none))) (cond (Nat.ble pc 25) (cond (Nat.ble pc 24) (cond (Nat.beq pc 24) (some (.iconst 1, 1)) none) (cond (Nat.beq pc 25) (some (.goto 4, 3)) none)) (cond (Nat.ble pc 28) (cond (Nat.beq pc 28) (some (.iconst 0, 1)) none) (cond (Nat.beq pc 29) (some (.ireturn, 1)) none)))))
theorem tkX4_asksBooking : tkAll cX4_asksBooking tbX4_asksBooking := fun pc => (tk_b (tk_b (tk_b (tk_b (tk_l dX4_asksBooking_0) (tk_l dX4_asksBooking_1)) (tk_b (tk_l dX4_asksBooking_2) (tk_l dX4_asksBooking_3))) (tk_b (tk_b (tk_l dX4_asksBooking_6) (tk_l dX4_asksBooking_9)) (tk_b (tk_l dX4_asksBooking_10) (tk_l dX4_asksBooking_13)))) (tk_b (tk_b (tk_b (tk_l dX4_asksBooking_14) (tk_l dX4_asksBooking_17)) (tk_b (tk_l dX4_asksBooking_18) (tk_l dX4_asksBooking_21))) (tk_b (tk_b (tk_l dX4_asksBooking_24) (tk_l dX4_asksBooking_25)) (tk_b (tk_l dX4_asksBooking_28) (tk_l dX4_asksBooking_29)))))
def tbX4_wagons (pc : Nat) : Option (Instr × Nat) := (cond (Nat.ble pc 8) (cond (Nat.ble pc 1) (cond (Nat.ble pc 0) (cond (Nat.beq pc 0) (some (.aload_n 0, 1)) none) (cond (Nat.beq pc 1) (some (.iload_n 1, 1)) none)) (cond (Nat.ble pc 2) (cond (Nat.beq pc 2) (some (.invokevirtual 174, 3)) none) (cond (Nat.ble pc 5) (cond (Nat.beq pc 5) (some (.ifCond .eq 12, 3)) none) (cond (Nat.beq pc 8) (some (.aload_n 0, 1)) none)))) (cond (Nat.ble pc 13) (cond (Nat.ble pc 9) (cond (Nat.beq pc 9) (some (.getfield 62, 3)) none) (cond (Nat.ble pc 12) (cond (Nat.beq pc 12) (some (.iload_n 1, 1)) none) (cond (Nat.beq pc 13) (some (.iaload, 1)) none))) (cond (Nat.ble pc 14) (cond (Nat.beq pc 14) (some (.goto 4, 3)) none) (cond (Nat.ble pc 17) (cond (Nat.beq pc 17) (some (.iconst 0, 1)) none) (cond (Nat.beq pc 18) (some (.ireturn, 1)) none)))))
theorem tkX4_wagons : tkAll cX4_wagons tbX4_wagons := fun pc => (tk_b (tk_b (tk_b (tk_l dX4_wagons_0) (tk_l dX4_wagons_1)) (tk_b (tk_l dX4_wagons_2) (tk_b (tk_l dX4_wagons_5) (tk_l dX4_wagons_8)))) (tk_b (tk_b (tk_l dX4_wagons_9) (tk_b (tk_l dX4_wagons_12) (tk_l dX4_wagons_13))) (tk_b (tk_l dX4_wagons_14) (tk_b (tk_l dX4_wagons_17) (tk_l dX4_wagons_18)))))
def tbX4_wagonOf (pc : Nat) : Option (Instr × Nat) := (cond (Nat.ble pc 25) (cond (Nat.ble pc 11) (cond (Nat.ble pc 3) (cond (Nat.ble pc 1) (cond (Nat.ble pc 0) (cond (Nat.beq pc 0) (some (.aload_n 0, 1)) none) (cond (Nat.beq pc 1) (some (.aload_n 0, 1)) none)) (cond (Nat.ble pc 2) (cond (Nat.beq pc 2) (some (.iload_n 1, 1)) none) (cond (Nat.beq pc 3) (some (.invokevirtual 158, 3)) none))) (cond (Nat.ble pc 9) (cond (Nat.ble pc 6) (cond (Nat.beq pc 6) (some (.ifCond .eq 23, 3)) none) (cond (Nat.beq pc 9) (some (.iload_n 2, 1)) none)) (cond (Nat.ble pc 10) (cond (Nat.beq pc 10) (some (.iconst 0, 1)) none) (cond (Nat.beq pc 11) (some (.aload_n 0, 1)) none)))) (cond (Nat.ble pc 17) (cond (Nat.ble pc 15) (cond (Nat.ble pc 12) (cond (Nat.beq pc 12) (some (.getfield 62, 3)) none) (cond (Nat.beq pc 15) (some (.iload_n 1, 1)) none)) (cond (Nat.ble pc 16) (cond (Nat.beq pc 16) (some (.iaload, 1)) none) (cond (Nat.beq pc 17) (some (.iconst 1, 1)) none))) (cond (Nat.ble pc 19) (cond (Nat.ble pc 18) (cond (Nat.beq pc 18) (some (.isub, 1)) none) (cond (Nat.beq pc 19) (some (.invokestatic 84, 3)) none)) (cond (Nat.ble pc 22) (cond (Nat.beq pc 22) (some (.ifCond .eq 7, 3)) none) (cond (Nat.beq pc 25) (some (.iconst 0, 1)) none))))) (cond (Nat.ble pc 41) (cond (Nat.ble pc 33) (cond (Nat.ble pc 29) (cond (Nat.ble pc 26) (cond (Nat.beq pc 26) (some (.goto 4, 3)) none) (cond (Nat.beq pc 29) (some (.iconst 1, 1)) none)) (cond (Nat.ble pc 30) (cond (Nat.beq pc 30) (some (.putfield 80, 3)) none) (cond (Nat.beq pc 33) (some (.aload_n 0, 1)) none))) (cond (Nat.ble pc 37) (cond (Nat.ble pc 34) (cond (Nat.beq pc 34) (some (.getfield 80, 3)) none) (cond (Nat.beq pc 37) (some (.ifCond .le 7, 3)) none)) (cond (Nat.ble pc 40) (cond (Nat.beq pc 40) (some (.iconst 0, 1)) none) (cond (Nat.beq pc 41) (some (.goto 14, 3)) none)))) (cond (Nat.ble pc 50) (cond (Nat.ble pc 45) (cond (Nat.ble pc 44) (cond (Nat.beq pc 44) (some (.aload_n 0, 1)) none) (cond (Nat.beq pc 45) (some (.getfield 65, 3)) none)) (cond (Nat.ble pc 48) (cond (Nat.beq pc 48) (some (.bipush 30, 2)) none) (cond (Nat.beq pc 50) (some (.iload_n 1, 1)) none))) (cond (Nat.ble pc 52) (cond (Nat.ble pc 51) (cond (Nat.beq pc 51) (some (.imul, 1)) none) (cond (Nat.beq pc 52) (some (.iload_n 2, 1)) none)) (cond (Nat.ble pc 53) (cond (Nat.beq pc 53) (some (.iadd, 1)) none) (cond (Nat.ble pc 54) (cond (Nat.beq pc 54) (some (.iaload, 1)) none) (cond (Nat.beq pc 55) (some (.ireturn, 1)) none)))))))
theorem tkX4_wagonOf : tkAll cX4_wagonOf tbX4_wagonOf := fun pc => (tk_b (tk_b (tk_b (tk_b (tk_b (tk_l dX4_wagonOf_0) (tk_l dX4_wagonOf_1)) (tk_b (tk_l dX4_wagonOf_2) (tk_l dX4_wagonOf_3))) (tk_b (tk_b (tk_l dX4_wagonOf_6) (tk_l dX4_wagonOf_9)) (tk_b (tk_l dX4_wagonOf_10) (tk_l dX4_wagonOf_11)))) (tk_b (tk_b (tk_b (tk_l dX4_wagonOf_12) (tk_l dX4_wagonOf_15)) (tk_b (tk_l dX4_wagonOf_16) (tk_l dX4_wagonOf_17))) (tk_b (tk_b (tk_l dX4_wagonOf_18) (tk_l dX4_wagonOf_19)) (tk_b (tk_l dX4_wagonOf_22) (tk_l dX4_wagonOf_25))))) (tk_b (tk_b (tk_b (tk_b (tk_l dX4_wagonOf_26) (tk_l dX4_wagonOf_29)) (tk_b (tk_l dX4_wagonOf_30) (tk_l dX4_wagonOf_33))) (tk_b (tk_b (tk_l dX4_wagonOf_34) (tk_l dX4_wagonOf_37)) (tk_b (tk_l dX4_wagonOf_40) (tk_l dX4_wagonOf_41)))) (tk_b (tk_b (tk_b (tk_l dX4_wagonOf_44) (tk_l dX4_wagonOf_45)) (tk_b (tk_l dX4_wagonOf_48) (tk_l dX4_wagonOf_50))) (tk_b (tk_b (tk_l dX4_wagonOf_51) (tk_l dX4_wagonOf_52)) (tk_b (tk_l dX4_wagonOf_53) (tk_b (tk_l dX4_wagonOf_54) (tk_l dX4_wagonOf_55)))))))
def tbX4_lapses (pc : Nat) : Option (Instr × Nat) := (cond (Nat.ble pc 24) (cond (Nat.ble pc 10) (cond (Nat.ble pc 2) (cond (Nat.ble pc 0) (cond (Nat.beq pc 0) (some (.aload_n 0, 1)) none) (cond (Nat.ble pc 1) (cond (Nat.beq pc 1) (some (.aload_n 0, 1)) none) (cond (Nat.beq pc 2) (some (.iload_n 1, 1)) none))) (cond (Nat.ble pc 6) (cond (Nat.ble pc 3) (cond (Nat.beq pc 3) (some (.invokevirtual 158, 3)) none) (cond (Nat.beq pc 6) (some (.ifCond .ne 7, 3)) none)) (cond (Nat.ble pc 9) (cond (Nat.beq pc 9) (some (.iconst 1, 1)) none) (cond (Nat.beq pc 10) (some (.goto 18, 3)) none)))) (cond (Nat.ble pc 18) (cond (Nat.ble pc 14) (cond (Nat.ble pc 13) (cond (Nat.beq pc 13) (some (.aload_n 0, 1)) none) (cond (Nat.beq pc 14) (some (.getfield 47, 3)) none)) (cond (Nat.ble pc 17) (cond (Nat.beq pc 17) (some (.iload_n 1, 1)) none) (cond (Nat.beq pc 18) (some (.iaload, 1)) none))) (cond (Nat.ble pc 20) (cond (Nat.ble pc 19) (cond (Nat.beq pc 19) (some (.iconst 1, 1)) none) (cond (Nat.beq pc 20) (some (.if_icmp .ne 7, 3)) none)) (cond (Nat.ble pc 23) (cond (Nat.beq pc 23) (some (.iconst 0, 1)) none) (cond (Nat.beq pc 24) (some (.goto 4, 3)) none))))) (cond (Nat.ble pc 39) (cond (Nat.ble pc 31) (cond (Nat.ble pc 27) (cond (Nat.beq pc 27) (some (.iconst 2, 1)) none) (cond (Nat.ble pc 28) (cond (Nat.beq pc 28) (some (.putfield 80, 3)) none) (cond (Nat.beq pc 31) (some (.aload_n 0, 1)) none))) (cond (Nat.ble pc 35) (cond (Nat.ble pc 32) (cond (Nat.beq pc 32) (some (.getfield 80, 3)) none) (cond (Nat.beq pc 35) (some (.ifCond .le 7, 3)) none)) (cond (Nat.ble pc 38) (cond (Nat.beq pc 38) (some (.iconst 0, 1)) none) (cond (Nat.beq pc 39) (some (.goto 14, 3)) none)))) (cond (Nat.ble pc 47) (cond (Nat.ble pc 43) (cond (Nat.ble pc 42) (cond (Nat.beq pc 42) (some (.aload_n 0, 1)) none) (cond (Nat.beq pc 43) (some (.getfield 59, 3)) none)) (cond (Nat.ble pc 46) (cond (Nat.beq pc 46) (some (.iload_n 1, 1)) none) (cond (Nat.beq pc 47) (some (.iaload, 1)) none))) (cond (Nat.ble pc 49) (cond (Nat.ble pc 48) (cond (Nat.beq pc 48) (some (.aload_n 0, 1)) none) (cond (Nat.beq pc 49) (some (.getfield 171, 3)) none)) (cond (Nat.ble pc 52) (cond (Nat.beq pc 52) (some (.isub, 1)) none) (cond (Nat.beq pc 53) (some (.ireturn, 1)) none))))))
theorem tkX4_lapses : tkAll cX4_lapses tbX4_lapses := fun pc => (tk_b (tk_b (tk_b (tk_b (tk_l dX4_lapses_0) (tk_b (tk_l dX4_lapses_1) (tk_l dX4_lapses_2))) (tk_b (tk_b (tk_l dX4_lapses_3) (tk_l dX4_lapses_6)) (tk_b (tk_l dX4_lapses_9) (tk_l dX4_lapses_10)))) (tk_b (tk_b (tk_b (tk_l dX4_lapses_13) (tk_l dX4_lapses_14)) (tk_b (tk_l dX4_lapses_17) (tk_l dX4_lapses_18))) (tk_b (tk_b (tk_l dX4_lapses_19) (tk_l dX4_lapses_20)) (tk_b (tk_l dX4_lapses_23) (tk_l dX4_lapses_24))))) (tk_b (tk_b (tk_b (tk_l dX4_lapses_27) (tk_b (tk_l dX4_lapses_28) (tk_l dX4_lapses_31))) (tk_b (tk_b (tk_l dX4_lapses_32) (tk_l dX4_lapses_35)) (tk_b (tk_l dX4_lapses_38) (tk_l dX4_lapses_39)))) (tk_b (tk_b (tk_b (tk_l dX4_lapses_42) (tk_l dX4_lapses_43)) (tk_b (tk_l dX4_lapses_46) (tk_l dX4_lapses_47))) (tk_b (tk_b (tk_l dX4_lapses_48) (tk_l dX4_lapses_49)) (tk_b (tk_l dX4_lapses_52) (tk_l dX4_lapses_53))))))
def tbX4_depart (pc : Nat) : Option (Instr × Nat) := (cond (Nat.ble pc 101) (cond (Nat.ble pc 52) (cond (Nat.ble pc 25) (cond (Nat.ble pc 10) (cond (Nat.ble pc 2) (cond (Nat.ble pc 0) (cond (Nat.beq pc 0) (some (.aload_n 0, 1)) none) (cond (Nat.ble pc 1) (cond (Nat.beq pc 1) (some (.iload_n 1, 1)) none) (cond (Nat.beq pc 2) (some (.iload_n 2, 1)) none))) (cond (Nat.ble pc 6) (cond (Nat.ble pc 3) (cond (Nat.beq pc 3) (some (.invokestatic 95, 3)) none) (cond (Nat.beq pc 6) (some (.ifCond .eq 15, 3)) none)) (cond (Nat.ble pc 9) (cond (Nat.beq pc 9) (some (.iload_n 3, 1)) none) (cond (Nat.beq pc 10) (some (.invokestatic 88, 3)) none)))) (cond (Nat.ble pc 17) (cond (Nat.ble pc 13) (cond (Nat.beq pc 13) (some (.ifCond .eq 8, 3)) none) (cond (Nat.ble pc 16) (cond (Nat.beq pc 16) (some (.iload_n 1, 1)) none) (cond (Nat.beq pc 17) (some (.iload_n 3, 1)) none))) (cond (Nat.ble pc 21) (cond (Nat.ble pc 18) (cond (Nat.beq pc 18) (some (.if_icmp .ne 7, 3)) none) (cond (Nat.beq pc 21) (some (.iconst 1, 1)) none)) (cond (Nat.ble pc 22) (cond (Nat.beq pc 22) (some (.goto 17, 3)) none) (cond (Nat.beq pc 25) (some (.aload_n 0, 1)) none))))) (cond (Nat.ble pc 38) (cond (Nat.ble pc 28) (cond (Nat.ble pc 26) (cond (Nat.beq pc 26) (some (.iload_n 1, 1)) none) (cond (Nat.ble pc 27) (cond (Nat.beq pc 27) (some (.iload_n 2, 1)) none) (cond (Nat.beq pc 28) (some (.invokevirtual 180, 3)) none))) (cond (Nat.ble pc 34) (cond (Nat.ble pc 31) (cond (Nat.beq pc 31) (some (.ifCond .eq 7, 3)) none) (cond (Nat.beq pc 34) (some (.iconst 0, 1)) none)) (cond (Nat.ble pc 35) (cond (Nat.beq pc 35) (some (.goto 4, 3)) none) (cond (Nat.beq pc 38) (some (.iconst 2, 1)) none)))) (cond (Nat.ble pc 46) (cond (Nat.ble pc 42) (cond (Nat.ble pc 39) (cond (Nat.beq pc 39) (some (.putfield 80, 3)) none) (cond (Nat.beq pc 42) (some (.aload_n 0, 1)) none)) (cond (Nat.ble pc 43) (cond (Nat.beq pc 43) (some (.getfield 80, 3)) none) (cond (Nat.beq pc 46) (some (.ifCond .le 5, 3)) none))) (cond (Nat.ble pc 50) (cond (Nat.ble pc 49) (cond (Nat.beq pc 49) (some (.iconst 0, 1)) none) (cond (Nat.beq pc 50) (some (.ireturn, 1)) none)) (cond (Nat.ble pc 51) (cond (Nat.beq pc 51) (some (.iconst 5, 1)) none) (cond (Nat.beq pc 52) (some (.iload_n 1, 1)) none)))))) (cond (Nat.ble pc 74) (cond (Nat.ble pc 61) (cond (Nat.ble pc 55) (cond (Nat.ble pc 53) (cond (Nat.beq pc 53) (some (.imul, 1)) none) (cond (Nat.ble pc 54) (cond (Nat.beq pc 54) (some (.iload_n 2, 1)) none) (cond (Nat.beq pc 55) (some (.iadd, 1)) none))) (cond (Nat.ble pc 58) (cond (Nat.ble pc 56) (cond (Nat.beq pc 56) (some (.istore 4, 2)) none) (cond (Nat.beq pc 58) (some (.iconst 0, 1)) none)) (cond (Nat.ble pc 59) (cond (Nat.beq pc 59) (some (.istore 5, 2)) none) (cond (Nat.beq pc 61) (some (.iload 5, 2)) none)))) (cond (Nat.ble pc 67) (cond (Nat.ble pc 63) (cond (Nat.beq pc 63) (some (.aload_n 0, 1)) none) (cond (Nat.ble pc 64) (cond (Nat.beq pc 64) (some (.getfield 19, 3)) none) (cond (Nat.beq pc 67) (some (.iload 4, 2)) none))) (cond (Nat.ble pc 70) (cond (Nat.ble pc 69) (cond (Nat.beq pc 69) (some (.iaload, 1)) none) (cond (Nat.beq pc 70) (some (.if_icmp .ge 81, 3)) none)) (cond (Nat.ble pc 73) (cond (Nat.beq pc 73) (some (.aload_n 0, 1)) none) (cond (Nat.beq pc 74) (some (.getfield 22, 3)) none))))) (cond (Nat.ble pc 86) (cond (Nat.ble pc 81) (cond (Nat.ble pc 77) (cond (Nat.beq pc 77) (some (.bipush 6, 2)) none) (cond (Nat.ble pc 79) (cond (Nat.beq pc 79) (some (.iload 4, 2)) none) (cond (Nat.beq pc 81) (some (.imul, 1)) none))) (cond (Nat.ble pc 84) (cond (Nat.ble pc 82) (cond (Nat.beq pc 82) (some (.iload 5, 2)) none) (cond (Nat.beq pc 84) (some (.iadd, 1)) none)) (cond (Nat.ble pc 85) (cond (Nat.beq pc 85) (some (.iaload, 1)) none) (cond (Nat.beq pc 86) (some (.istore 6, 2)) none)))) (cond (Nat.ble pc 94) (cond (Nat.ble pc 89) (cond (Nat.ble pc 88) (cond (Nat.beq pc 88) (some (.aload_n 0, 1)) none) (cond (Nat.beq pc 89) (some (.getfield 77, 3)) none)) (cond (Nat.ble pc 92) (cond (Nat.beq pc 92) (some (.bipush 6, 2)) none) (cond (Nat.beq pc 94) (some (.aload_n 0, 1)) none))) (cond (Nat.ble pc 98) (cond (Nat.ble pc 95) (cond (Nat.beq pc 95) (some (.getfield 183, 3)) none) (cond (Nat.beq pc 98) (some (.imul, 1)) none)) (cond (Nat.ble pc 99) (cond (Nat.beq pc 99) (some (.iload 5, 2)) none) (cond (Nat.beq pc 101) (some (.iadd, 1)) none))))))) (cond (Nat.ble pc 151) (cond (Nat.ble pc 124) (cond (Nat.ble pc 112) (cond (Nat.ble pc 105) (cond (Nat.ble pc 102) (cond (Nat.beq pc 102) (some (.iload 6, 2)) none) (cond (Nat.ble pc 104) (cond (Nat.beq pc 104) (some (.iastore, 1)) none) (cond (Nat.beq pc 105) (some (.aload_n 0, 1)) none))) (cond (Nat.ble pc 109) (cond (Nat.ble pc 106) (cond (Nat.beq pc 106) (some (.getfield 7, 3)) none) (cond (Nat.beq pc 109) (some (.iload 6, 2)) none)) (cond (Nat.ble pc 111) (cond (Nat.beq pc 111) (some (.iconst (-1), 1)) none) (cond (Nat.beq pc 112) (some (.iastore, 1)) none)))) (cond (Nat.ble pc 117) (cond (Nat.ble pc 113) (cond (Nat.beq pc 113) (some (.aload_n 0, 1)) none) (cond (Nat.ble pc 114) (cond (Nat.beq pc 114) (some (.getfield 13, 3)) none) (cond (Nat.beq pc 117) (some (.iload 6, 2)) none))) (cond (Nat.ble pc 120) (cond (Nat.ble pc 119) (cond (Nat.beq pc 119) (some (.aload_n 0, 1)) none) (cond (Nat.beq pc 120) (some (.getfield 50, 3)) none)) (cond (Nat.ble pc 123) (cond (Nat.beq pc 123) (some (.aload_n 0, 1)) none) (cond (Nat.beq pc 124) (some (.getfield 16, 3)) none))))) (cond (Nat.ble pc 136) (cond (Nat.ble pc 130) (cond (Nat.ble pc 127) (cond (Nat.beq pc 127) (some (.iload 6, 2)) none) (cond (Nat.ble pc 129) (cond (Nat.beq pc 129) (some (.iaload, 1)) none) (cond (Nat.beq pc 130) (some (.iaload, 1)) none))) (cond (Nat.ble pc 132) (cond (Nat.ble pc 131) (cond (Nat.beq pc 131) (some (.iastore, 1)) none) (cond (Nat.beq pc 132) (some (.aload_n 0, 1)) none)) (cond (Nat.ble pc 133) (cond (Nat.beq pc 133) (some (.getfield 47, 3)) none) (cond (Nat.beq pc 136) (some (.aload_n 0, 1)) none)))) (cond (Nat.ble pc 143) (cond (Nat.ble pc 140) (cond (Nat.ble pc 137) (cond (Nat.beq pc 137) (some (.getfield 16, 3)) none) (cond (Nat.beq pc 140) (some (.iload 6, 2)) none)) (cond (Nat.ble pc 142) (cond (Nat.beq pc 142) (some (.iaload, 1)) none) (cond (Nat.beq pc 143) (some (.iconst 3, 1)) none))) (cond (Nat.ble pc 145) (cond (Nat.ble pc 144) (cond (Nat.beq pc 144) (some (.iastore, 1)) none) (cond (Nat.beq pc 145) (some (.iinc 5 1, 3)) none)) (cond (Nat.ble pc 148) (cond (Nat.beq pc 148) (some (.goto (-87), 3)) none) (cond (Nat.beq pc 151) (some (.aload_n 0, 1)) none)))))) (cond (Nat.ble pc 176) (cond (Nat.ble pc 165) (cond (Nat.ble pc 156) (cond (Nat.ble pc 152) (cond (Nat.beq pc 152) (some (.getfield 74, 3)) none) (cond (Nat.ble pc 155) (cond (Nat.beq pc 155) (some (.aload_n 0, 1)) none) (cond (Nat.beq pc 156) (some (.getfield 183, 3)) none))) (cond (Nat.ble pc 160) (cond (Nat.ble pc 159) (cond (Nat.beq pc 159) (some (.aload_n 0, 1)) none) (cond (Nat.beq pc 160) (some (.getfield 19, 3)) none)) (cond (Nat.ble pc 163) (cond (Nat.beq pc 163) (some (.iload 4, 2)) none) (cond (Nat.beq pc 165) (some (.iaload, 1)) none)))) (cond (Nat.ble pc 171) (cond (Nat.ble pc 167) (cond (Nat.ble pc 166) (cond (Nat.beq pc 166) (some (.iastore, 1)) none) (cond (Nat.beq pc 167) (some (.aload_n 0, 1)) none)) (cond (Nat.ble pc 168) (cond (Nat.beq pc 168) (some (.getfield 19, 3)) none) (cond (Nat.beq pc 171) (some (.iload 4, 2)) none))) (cond (Nat.ble pc 174) (cond (Nat.ble pc 173) (cond (Nat.beq pc 173) (some (.iconst 0, 1)) none) (cond (Nat.beq pc 174) (some (.iastore, 1)) none)) (cond (Nat.ble pc 175) (cond (Nat.beq pc 175) (some (.aload_n 0, 1)) none) (cond (Nat.beq pc 176) (some (.getfield 68, 3)) none))))) (cond (Nat.ble pc 187) (cond (Nat.ble pc 183) (cond (Nat.ble pc 179) (cond (Nat.beq pc 179) (some (.aload_n 0, 1)) none) (cond (Nat.ble pc 180) (cond (Nat.beq pc 180) (some (.getfield 183, 3)) none) (cond (Nat.beq pc 183) (some (.iload_n 3, 1)) none))) (cond (Nat.ble pc 185) (cond (Nat.ble pc 184) (cond (Nat.beq pc 184) (some (.iastore, 1)) none) (cond (Nat.beq pc 185) (some (.aload_n 0, 1)) none)) (cond (Nat.ble pc 186) (cond (Nat.beq pc 186) (some (.dup, 1)) none) (cond (Nat.beq pc 187) (some (.getfield 183, 3)) none)))) (cond (Nat.ble pc 195) (cond (Nat.ble pc 191) (cond (Nat.ble pc 190) (cond (Nat.beq pc 190) (some (.iconst 1, 1)) none) (cond (Nat.beq pc 191) (some (.iadd, 1)) none)) (cond (Nat.ble pc 192) (cond (Nat.beq pc 192) (some (.putfield 183, 3)) none) (cond (Nat.beq pc 195) (some (.aload_n 0, 1)) none))) (cond (Nat.ble pc 199) (cond (Nat.ble pc 196) (cond (Nat.beq pc 196) (some (.getfield 183, 3)) none) (cond (Nat.beq pc 199) (some (.iconst 1, 1)) none)) (cond (Nat.ble pc 200) (cond (Nat.beq pc 200) (some (.isub, 1)) none) (cond (Nat.beq pc 201) (some (.ireturn, 1)) none))))))))
theorem tkX4_depart : tkAll cX4_depart tbX4_depart := fun pc => (tk_b (tk_b (tk_b (tk_b (tk_b (tk_b (tk_l dX4_depart_0) (tk_b (tk_l dX4_depart_1) (tk_l dX4_depart_2))) (tk_b (tk_b (tk_l dX4_depart_3) (tk_l dX4_depart_6)) (tk_b (tk_l dX4_depart_9) (tk_l dX4_depart_10)))) (tk_b (tk_b (tk_l dX4_depart_13) (tk_b (tk_l dX4_depart_16) (tk_l dX4_depart_17))) (tk_b (tk_b (tk_l dX4_depart_18) (tk_l dX4_depart_21)) (tk_b (tk_l dX4_depart_22) (tk_l dX4_depart_25))))) (tk_b (tk_b (tk_b (tk_l dX4_depart_26) (tk_b (tk_l dX4_depart_27) (tk_l dX4_depart_28))) (tk_b (tk_b (tk_l dX4_depart_31) (tk_l dX4_depart_34)) (tk_b (tk_l dX4_depart_35) (tk_l dX4_depart_38)))) (tk_b (tk_b (tk_b (tk_l dX4_depart_39) (tk_l dX4_depart_42)) (tk_b (tk_l dX4_depart_43) (tk_l dX4_depart_46))) (tk_b (tk_b (tk_l dX4_depart_49) (tk_l dX4_depart_50)) (tk_b (tk_l dX4_depart_51) (tk_l dX4_depart_52)))))) (tk_b (tk_b (tk_b (tk_b (tk_l dX4_depart_53) (tk_b (tk_l dX4_depart_54) (tk_l dX4_depart_55))) (tk_b (tk_b (tk_l dX4_depart_56) (tk_l dX4_depart_58)) (tk_b (tk_l dX4_depart_59) (tk_l dX4_depart_61)))) (tk_b (tk_b (tk_l dX4_depart_63) (tk_b (tk_l dX4_depart_64) (tk_l dX4_depart_67))) (tk_b (tk_b (tk_l dX4_depart_69) (tk_l dX4_depart_70)) (tk_b (tk_l dX4_depart_73) (tk_l dX4_depart_74))))) (tk_b (tk_b (tk_b (tk_l dX4_depart_77) (tk_b (tk_l dX4_depart_79) (tk_l dX4_depart_81))) (tk_b (tk_b (tk_l dX4_depart_82) (tk_l dX4_depart_84)) (tk_b (tk_l dX4_depart_85) (tk_l dX4_depart_86)))) (tk_b (tk_b (tk_b (tk_l dX4_depart_88) (tk_l dX4_depart_89)) (tk_b (tk_l dX4_depart_92) (tk_l dX4_depart_94))) (tk_b (tk_b (tk_l dX4_depart_95) (tk_l dX4_depart_98)) (tk_b (tk_l dX4_depart_99) (tk_l dX4_depart_101))))))) (tk_b (tk_b (tk_b (tk_b (tk_b (tk_l dX4_depart_102) (tk_b (tk_l dX4_depart_104) (tk_l dX4_depart_105))) (tk_b (tk_b (tk_l dX4_depart_106) (tk_l dX4_depart_109)) (tk_b (tk_l dX4_depart_111) (tk_l dX4_depart_112)))) (tk_b (tk_b (tk_l dX4_depart_113) (tk_b (tk_l dX4_depart_114) (tk_l dX4_depart_117))) (tk_b (tk_b (tk_l dX4_depart_119) (tk_l dX4_depart_120)) (tk_b (tk_l dX4_depart_123) (tk_l dX4_depart_124))))) (tk_b (tk_b (tk_b (tk_l dX4_depart_127) (tk_b (tk_l dX4_depart_129) (tk_l dX4_depart_130))) (tk_b (tk_b (tk_l dX4_depart_131) (tk_l dX4_depart_132)) (tk_b (tk_l dX4_depart_133) (tk_l dX4_depart_136)))) (tk_b (tk_b (tk_b (tk_l dX4_depart_137) (tk_l dX4_depart_140)) (tk_b (tk_l dX4_depart_142) (tk_l dX4_depart_143))) (tk_b (tk_b (tk_l dX4_depart_144) (tk_l dX4_depart_145)) (tk_b (tk_l dX4_depart_148) (tk_l dX4_depart_151)))))) (tk_b (tk_b (tk_b (tk_b (tk_l dX4_depart_152) (tk_b (tk_l dX4_depart_155) (tk_l dX4_depart_156))) (tk_b (tk_b (tk_l dX4_depart_159) (tk_l dX4_depart_160)) (tk_b (tk_l dX4_depart_163) (tk_l dX4_depart_165)))) (tk_b (tk_b (tk_b (tk_l dX4_depart_166) (tk_l dX4_depart_167)) (tk_b (tk_l dX4_depart_168) (tk_l dX4_depart_171))) (tk_b (tk_b (tk_l dX4_depart_173) (tk_l dX4_depart_174)) (tk_b (tk_l dX4_depart_175) (tk_l dX4_depart_176))))) (tk_b (tk_b (tk_b (tk_l dX4_depart_179) (tk_b (tk_l dX4_depart_180) (tk_l dX4_depart_183))) (tk_b (tk_b (tk_l dX4_depart_184) (tk_l dX4_depart_185)) (tk_b (tk_l dX4_depart_186) (tk_l dX4_depart_187)))) (tk_b (tk_b (tk_b (tk_l dX4_depart_190) (tk_l dX4_depart_191)) (tk_b (tk_l dX4_depart_192) (tk_l dX4_depart_195))) (tk_b (tk_b (tk_l dX4_depart_196) (tk_l dX4_depart_199)) (tk_b (tk_l dX4_depart_200) (tk_l dX4_depart_201))))))))
def tbX4_canDepart (pc : Nat) : Option (Instr × Nat) := (cond (Nat.ble pc 51) (cond (Nat.ble pc 20) (cond (Nat.ble pc 6) (cond (Nat.ble pc 2) (cond (Nat.ble pc 0) (cond (Nat.beq pc 0) (some (.iconst 5, 1)) none) (cond (Nat.ble pc 1) (cond (Nat.beq pc 1) (some (.iload_n 1, 1)) none) (cond (Nat.beq pc 2) (some (.imul, 1)) none))) (cond (Nat.ble pc 4) (cond (Nat.ble pc 3) (cond (Nat.beq pc 3) (some (.iload_n 2, 1)) none) (cond (Nat.beq pc 4) (some (.iadd, 1)) none)) (cond (Nat.ble pc 5) (cond (Nat.beq pc 5) (some (.istore_n 3, 1)) none) (cond (Nat.beq pc 6) (some (.aload_n 0, 1)) none)))) (cond (Nat.ble pc 12) (cond (Nat.ble pc 10) (cond (Nat.ble pc 7) (cond (Nat.beq pc 7) (some (.getfield 19, 3)) none) (cond (Nat.beq pc 10) (some (.iload_n 3, 1)) none)) (cond (Nat.ble pc 11) (cond (Nat.beq pc 11) (some (.iaload, 1)) none) (cond (Nat.beq pc 12) (some (.ifCond .le 7, 3)) none))) (cond (Nat.ble pc 16) (cond (Nat.ble pc 15) (cond (Nat.beq pc 15) (some (.iconst 1, 1)) none) (cond (Nat.beq pc 16) (some (.goto 4, 3)) none)) (cond (Nat.ble pc 19) (cond (Nat.beq pc 19) (some (.iconst 0, 1)) none) (cond (Nat.beq pc 20) (some (.istore 4, 2)) none))))) (cond (Nat.ble pc 33) (cond (Nat.ble pc 27) (cond (Nat.ble pc 23) (cond (Nat.ble pc 22) (cond (Nat.beq pc 22) (some (.iconst 0, 1)) none) (cond (Nat.beq pc 23) (some (.istore 5, 2)) none)) (cond (Nat.ble pc 25) (cond (Nat.beq pc 25) (some (.iload 5, 2)) none) (cond (Nat.beq pc 27) (some (.aload_n 0, 1)) none))) (cond (Nat.ble pc 31) (cond (Nat.ble pc 28) (cond (Nat.beq pc 28) (some (.getfield 19, 3)) none) (cond (Nat.beq pc 31) (some (.iload_n 3, 1)) none)) (cond (Nat.ble pc 32) (cond (Nat.beq pc 32) (some (.iaload, 1)) none) (cond (Nat.beq pc 33) (some (.if_icmp .ge 72, 3)) none)))) (cond (Nat.ble pc 42) (cond (Nat.ble pc 38) (cond (Nat.ble pc 36) (cond (Nat.beq pc 36) (some (.iload 4, 2)) none) (cond (Nat.beq pc 38) (some (.ifCond .eq 67, 3)) none)) (cond (Nat.ble pc 41) (cond (Nat.beq pc 41) (some (.aload_n 0, 1)) none) (cond (Nat.beq pc 42) (some (.getfield 16, 3)) none))) (cond (Nat.ble pc 46) (cond (Nat.ble pc 45) (cond (Nat.beq pc 45) (some (.aload_n 0, 1)) none) (cond (Nat.beq pc 46) (some (.getfield 22, 3)) none)) (cond (Nat.ble pc 49) (cond (Nat.beq pc 49) (some (.bipush 6, 2)) none) (cond (Nat.beq pc 51) (some (.iload_n 3, 1)) none)))))) (cond (Nat.ble pc 77) (cond (Nat.ble pc 62) (cond (Nat.ble pc 56) (cond (Nat.ble pc 53) (cond (Nat.ble pc 52) (cond (Nat.beq pc 52) (some (.imul, 1)) none) (cond (Nat.beq pc 53) (some (.iload 5, 2)) none)) (cond (Nat.ble pc 55) (cond (Nat.beq pc 55) (some (.iadd, 1)) none) (cond (Nat.beq pc 56) (some (.iaload, 1)) none))) (cond (Nat.ble pc 58) (cond (Nat.ble pc 57) (cond (Nat.beq pc 57) (some (.iaload, 1)) none) (cond (Nat.beq pc 58) (some (.istore 6, 2)) none)) (cond (Nat.ble pc 60) (cond (Nat.beq pc 60) (some (.iload 6, 2)) none) (cond (Nat.beq pc 62) (some (.iconst (-1), 1)) none)))) (cond (Nat.ble pc 70) (cond (Nat.ble pc 66) (cond (Nat.ble pc 63) (cond (Nat.beq pc 63) (some (.if_icmp .eq 33, 3)) none) (cond (Nat.beq pc 66) (some (.aload_n 0, 1)) none)) (cond (Nat.ble pc 67) (cond (Nat.beq pc 67) (some (.getfield 47, 3)) none) (cond (Nat.beq pc 70) (some (.iload 6, 2)) none))) (cond (Nat.ble pc 73) (cond (Nat.ble pc 72) (cond (Nat.beq pc 72) (some (.iaload, 1)) none) (cond (Nat.beq pc 73) (some (.iconst 2, 1)) none)) (cond (Nat.ble pc 74) (cond (Nat.beq pc 74) (some (.if_icmp .ne 22, 3)) none) (cond (Nat.beq pc 77) (some (.aload_n 0, 1)) none))))) (cond (Nat.ble pc 89) (cond (Nat.ble pc 83) (cond (Nat.ble pc 80) (cond (Nat.ble pc 78) (cond (Nat.beq pc 78) (some (.iload 6, 2)) none) (cond (Nat.beq pc 80) (some (.bipush 10, 2)) none)) (cond (Nat.ble pc 82) (cond (Nat.beq pc 82) (some (.iload_n 1, 1)) none) (cond (Nat.beq pc 83) (some (.imul, 1)) none))) (cond (Nat.ble pc 85) (cond (Nat.ble pc 84) (cond (Nat.beq pc 84) (some (.iload_n 2, 1)) none) (cond (Nat.beq pc 85) (some (.iadd, 1)) none)) (cond (Nat.ble pc 86) (cond (Nat.beq pc 86) (some (.invokevirtual 177, 3)) none) (cond (Nat.beq pc 89) (some (.ifCond .eq 7, 3)) none)))) (cond (Nat.ble pc 97) (cond (Nat.ble pc 93) (cond (Nat.ble pc 92) (cond (Nat.beq pc 92) (some (.iconst 1, 1)) none) (cond (Nat.beq pc 93) (some (.goto 4, 3)) none)) (cond (Nat.ble pc 96) (cond (Nat.beq pc 96) (some (.iconst 0, 1)) none) (cond (Nat.beq pc 97) (some (.istore 4, 2)) none))) (cond (Nat.ble pc 102) (cond (Nat.ble pc 99) (cond (Nat.beq pc 99) (some (.iinc 5 1, 3)) none) (cond (Nat.beq pc 102) (some (.goto (-77), 3)) none)) (cond (Nat.ble pc 105) (cond (Nat.beq pc 105) (some (.iload 4, 2)) none) (cond (Nat.beq pc 107) (some (.ireturn, 1)) none)))))))
theorem tkX4_canDepart : tkAll cX4_canDepart tbX4_canDepart := fun pc => (tk_b (tk_b (tk_b (tk_b (tk_b (tk_l dX4_canDepart_0) (tk_b (tk_l dX4_canDepart_1) (tk_l dX4_canDepart_2))) (tk_b (tk_b (tk_l dX4_canDepart_3) (tk_l dX4_canDepart_4)) (tk_b (tk_l dX4_canDepart_5) (tk_l dX4_canDepart_6)))) (tk_b (tk_b (tk_b (tk_l dX4_canDepart_7) (tk_l dX4_canDepart_10)) (tk_b (tk_l dX4_canDepart_11) (tk_l dX4_canDepart_12))) (tk_b (tk_b (tk_l dX4_canDepart_15) (tk_l dX4_canDepart_16)) (tk_b (tk_l dX4_canDepart_19) (tk_l dX4_canDepart_20))))) (tk_b (tk_b (tk_b (tk_b (tk_l dX4_canDepart_22) (tk_l dX4_canDepart_23)) (tk_b (tk_l dX4_canDepart_25) (tk_l dX4_canDepart_27))) (tk_b (tk_b (tk_l dX4_canDepart_28) (tk_l dX4_canDepart_31)) (tk_b (tk_l dX4_canDepart_32) (tk_l dX4_canDepart_33)))) (tk_b (tk_b (tk_b (tk_l dX4_canDepart_36) (tk_l dX4_canDepart_38)) (tk_b (tk_l dX4_canDepart_41) (tk_l dX4_canDepart_42))) (tk_b (tk_b (tk_l dX4_canDepart_45) (tk_l dX4_canDepart_46)) (tk_b (tk_l dX4_canDepart_49) (tk_l dX4_canDepart_51)))))) (tk_b (tk_b (tk_b (tk_b (tk_b (tk_l dX4_canDepart_52) (tk_l dX4_canDepart_53)) (tk_b (tk_l dX4_canDepart_55) (tk_l dX4_canDepart_56))) (tk_b (tk_b (tk_l dX4_canDepart_57) (tk_l dX4_canDepart_58)) (tk_b (tk_l dX4_canDepart_60) (tk_l dX4_canDepart_62)))) (tk_b (tk_b (tk_b (tk_l dX4_canDepart_63) (tk_l dX4_canDepart_66)) (tk_b (tk_l dX4_canDepart_67) (tk_l dX4_canDepart_70))) (tk_b (tk_b (tk_l dX4_canDepart_72) (tk_l dX4_canDepart_73)) (tk_b (tk_l dX4_canDepart_74) (tk_l dX4_canDepart_77))))) (tk_b (tk_b (tk_b (tk_b (tk_l dX4_canDepart_78) (tk_l dX4_canDepart_80)) (tk_b (tk_l dX4_canDepart_82) (tk_l dX4_canDepart_83))) (tk_b (tk_b (tk_l dX4_canDepart_84) (tk_l dX4_canDepart_85)) (tk_b (tk_l dX4_canDepart_86) (tk_l dX4_canDepart_89)))) (tk_b (tk_b (tk_b (tk_l dX4_canDepart_92) (tk_l dX4_canDepart_93)) (tk_b (tk_l dX4_canDepart_96) (tk_l dX4_canDepart_97))) (tk_b (tk_b (tk_l dX4_canDepart_99) (tk_l dX4_canDepart_102)) (tk_b (tk_l dX4_canDepart_105) (tk_l dX4_canDepart_107)))))))
def tbX4_areOn (pc : Nat) : Option (Instr × Nat) := (cond (Nat.ble pc 25) (cond (Nat.ble pc 11) (cond (Nat.ble pc 3) (cond (Nat.ble pc 1) (cond (Nat.ble pc 0) (cond (Nat.beq pc 0) (some (.iconst 1, 1)) none) (cond (Nat.beq pc 1) (some (.istore_n 3, 1)) none)) (cond (Nat.ble pc 2) (cond (Nat.beq pc 2) (some (.iconst 0, 1)) none) (cond (Nat.beq pc 3) (some (.istore 4, 2)) none))) (cond (Nat.ble pc 7) (cond (Nat.ble pc 5) (cond (Nat.beq pc 5) (some (.iload 4, 2)) none) (cond (Nat.beq pc 7) (some (.aload_n 0, 1)) none)) (cond (Nat.ble pc 8) (cond (Nat.beq pc 8) (some (.getfield 62, 3)) none) (cond (Nat.beq pc 11) (some (.iload_n 1, 1)) none)))) (cond (Nat.ble pc 17) (cond (Nat.ble pc 13) (cond (Nat.ble pc 12) (cond (Nat.beq pc 12) (some (.iaload, 1)) none) (cond (Nat.beq pc 13) (some (.if_icmp .ge 40, 3)) none)) (cond (Nat.ble pc 16) (cond (Nat.beq pc 16) (some (.iload_n 3, 1)) none) (cond (Nat.beq pc 17) (some (.ifCond .eq 28, 3)) none))) (cond (Nat.ble pc 21) (cond (Nat.ble pc 20) (cond (Nat.beq pc 20) (some (.aload_n 0, 1)) none) (cond (Nat.beq pc 21) (some (.getfield 7, 3)) none)) (cond (Nat.ble pc 24) (cond (Nat.beq pc 24) (some (.aload_n 0, 1)) none) (cond (Nat.beq pc 25) (some (.getfield 65, 3)) none))))) (cond (Nat.ble pc 37) (cond (Nat.ble pc 32) (cond (Nat.ble pc 30) (cond (Nat.ble pc 28) (cond (Nat.beq pc 28) (some (.bipush 30, 2)) none) (cond (Nat.beq pc 30) (some (.iload_n 1, 1)) none)) (cond (Nat.ble pc 31) (cond (Nat.beq pc 31) (some (.imul, 1)) none) (cond (Nat.beq pc 32) (some (.iload 4, 2)) none))) (cond (Nat.ble pc 35) (cond (Nat.ble pc 34) (cond (Nat.beq pc 34) (some (.iadd, 1)) none) (cond (Nat.beq pc 35) (some (.iaload, 1)) none)) (cond (Nat.ble pc 36) (cond (Nat.beq pc 36) (some (.iaload, 1)) none) (cond (Nat.beq pc 37) (some (.iload_n 2, 1)) none)))) (cond (Nat.ble pc 45) (cond (Nat.ble pc 41) (cond (Nat.ble pc 38) (cond (Nat.beq pc 38) (some (.if_icmp .ne 7, 3)) none) (cond (Nat.beq pc 41) (some (.iconst 1, 1)) none)) (cond (Nat.ble pc 42) (cond (Nat.beq pc 42) (some (.goto 4, 3)) none) (cond (Nat.beq pc 45) (some (.iconst 0, 1)) none))) (cond (Nat.ble pc 47) (cond (Nat.ble pc 46) (cond (Nat.beq pc 46) (some (.istore_n 3, 1)) none) (cond (Nat.beq pc 47) (some (.iinc 4 1, 3)) none)) (cond (Nat.ble pc 50) (cond (Nat.beq pc 50) (some (.goto (-45), 3)) none) (cond (Nat.ble pc 53) (cond (Nat.beq pc 53) (some (.iload_n 3, 1)) none) (cond (Nat.beq pc 54) (some (.ireturn, 1)) none)))))))
theorem tkX4_areOn : tkAll cX4_areOn tbX4_areOn := fun pc => (tk_b (tk_b (tk_b (tk_b (tk_b (tk_l dX4_areOn_0) (tk_l dX4_areOn_1)) (tk_b (tk_l dX4_areOn_2) (tk_l dX4_areOn_3))) (tk_b (tk_b (tk_l dX4_areOn_5) (tk_l dX4_areOn_7)) (tk_b (tk_l dX4_areOn_8) (tk_l dX4_areOn_11)))) (tk_b (tk_b (tk_b (tk_l dX4_areOn_12) (tk_l dX4_areOn_13)) (tk_b (tk_l dX4_areOn_16) (tk_l dX4_areOn_17))) (tk_b (tk_b (tk_l dX4_areOn_20) (tk_l dX4_areOn_21)) (tk_b (tk_l dX4_areOn_24) (tk_l dX4_areOn_25))))) (tk_b (tk_b (tk_b (tk_b (tk_l dX4_areOn_28) (tk_l dX4_areOn_30)) (tk_b (tk_l dX4_areOn_31) (tk_l dX4_areOn_32))) (tk_b (tk_b (tk_l dX4_areOn_34) (tk_l dX4_areOn_35)) (tk_b (tk_l dX4_areOn_36) (tk_l dX4_areOn_37)))) (tk_b (tk_b (tk_b (tk_l dX4_areOn_38) (tk_l dX4_areOn_41)) (tk_b (tk_l dX4_areOn_42) (tk_l dX4_areOn_45))) (tk_b (tk_b (tk_l dX4_areOn_46) (tk_l dX4_areOn_47)) (tk_b (tk_l dX4_areOn_50) (tk_b (tk_l dX4_areOn_53) (tk_l dX4_areOn_54)))))))
def tbX4_arrive (pc : Nat) : Option (Instr × Nat) := (cond (Nat.ble pc 92) (cond (Nat.ble pc 48) (cond (Nat.ble pc 20) (cond (Nat.ble pc 7) (cond (Nat.ble pc 2) (cond (Nat.ble pc 0) (cond (Nat.beq pc 0) (some (.aload_n 0, 1)) none) (cond (Nat.ble pc 1) (cond (Nat.beq pc 1) (some (.iload_n 1, 1)) none) (cond (Nat.beq pc 2) (some (.iconst 0, 1)) none))) (cond (Nat.ble pc 3) (cond (Nat.beq pc 3) (some (.aload_n 0, 1)) none) (cond (Nat.ble pc 4) (cond (Nat.beq pc 4) (some (.getfield 183, 3)) none) (cond (Nat.beq pc 7) (some (.iconst 1, 1)) none)))) (cond (Nat.ble pc 12) (cond (Nat.ble pc 8) (cond (Nat.beq pc 8) (some (.isub, 1)) none) (cond (Nat.ble pc 9) (cond (Nat.beq pc 9) (some (.invokestatic 84, 3)) none) (cond (Nat.beq pc 12) (some (.ifCond .ne 7, 3)) none))) (cond (Nat.ble pc 16) (cond (Nat.ble pc 15) (cond (Nat.beq pc 15) (some (.iconst 1, 1)) none) (cond (Nat.beq pc 16) (some (.goto 17, 3)) none)) (cond (Nat.ble pc 19) (cond (Nat.beq pc 19) (some (.iload_n 2, 1)) none) (cond (Nat.beq pc 20) (some (.iconst 0, 1)) none))))) (cond (Nat.ble pc 33) (cond (Nat.ble pc 25) (cond (Nat.ble pc 21) (cond (Nat.beq pc 21) (some (.iconst 4, 1)) none) (cond (Nat.ble pc 22) (cond (Nat.beq pc 22) (some (.invokestatic 84, 3)) none) (cond (Nat.beq pc 25) (some (.ifCond .ne 7, 3)) none))) (cond (Nat.ble pc 29) (cond (Nat.ble pc 28) (cond (Nat.beq pc 28) (some (.iconst 2, 1)) none) (cond (Nat.beq pc 29) (some (.goto 4, 3)) none)) (cond (Nat.ble pc 32) (cond (Nat.beq pc 32) (some (.iconst 0, 1)) none) (cond (Nat.beq pc 33) (some (.putfield 80, 3)) none)))) (cond (Nat.ble pc 40) (cond (Nat.ble pc 36) (cond (Nat.beq pc 36) (some (.aload_n 0, 1)) none) (cond (Nat.ble pc 37) (cond (Nat.beq pc 37) (some (.getfield 80, 3)) none) (cond (Nat.beq pc 40) (some (.ifCond .ne 48, 3)) none))) (cond (Nat.ble pc 44) (cond (Nat.ble pc 43) (cond (Nat.beq pc 43) (some (.aload_n 0, 1)) none) (cond (Nat.beq pc 44) (some (.aload_n 0, 1)) none)) (cond (Nat.ble pc 45) (cond (Nat.beq pc 45) (some (.getfield 71, 3)) none) (cond (Nat.beq pc 48) (some (.iload_n 1, 1)) none)))))) (cond (Nat.ble pc 67) (cond (Nat.ble pc 58) (cond (Nat.ble pc 53) (cond (Nat.ble pc 49) (cond (Nat.beq pc 49) (some (.baload, 1)) none) (cond (Nat.ble pc 50) (cond (Nat.beq pc 50) (some (.ifCond .ne 30, 3)) none) (cond (Nat.beq pc 53) (some (.aload_n 0, 1)) none))) (cond (Nat.ble pc 54) (cond (Nat.beq pc 54) (some (.getfield 19, 3)) none) (cond (Nat.ble pc 57) (cond (Nat.beq pc 57) (some (.iconst 5, 1)) none) (cond (Nat.beq pc 58) (some (.aload_n 0, 1)) none)))) (cond (Nat.ble pc 63) (cond (Nat.ble pc 59) (cond (Nat.beq pc 59) (some (.getfield 68, 3)) none) (cond (Nat.ble pc 62) (cond (Nat.beq pc 62) (some (.iload_n 1, 1)) none) (cond (Nat.beq pc 63) (some (.iaload, 1)) none))) (cond (Nat.ble pc 65) (cond (Nat.ble pc 64) (cond (Nat.beq pc 64) (some (.imul, 1)) none) (cond (Nat.beq pc 65) (some (.iload_n 2, 1)) none)) (cond (Nat.ble pc 66) (cond (Nat.beq pc 66) (some (.iadd, 1)) none) (cond (Nat.beq pc 67) (some (.iaload, 1)) none))))) (cond (Nat.ble pc 77) (cond (Nat.ble pc 72) (cond (Nat.ble pc 68) (cond (Nat.beq pc 68) (some (.aload_n 0, 1)) none) (cond (Nat.ble pc 69) (cond (Nat.beq pc 69) (some (.getfield 74, 3)) none) (cond (Nat.beq pc 72) (some (.iload_n 1, 1)) none))) (cond (Nat.ble pc 74) (cond (Nat.ble pc 73) (cond (Nat.beq pc 73) (some (.iaload, 1)) none) (cond (Nat.beq pc 74) (some (.iadd, 1)) none)) (cond (Nat.ble pc 75) (cond (Nat.beq pc 75) (some (.bipush 6, 2)) none) (cond (Nat.beq pc 77) (some (.if_icmp .le 7, 3)) none)))) (cond (Nat.ble pc 84) (cond (Nat.ble pc 80) (cond (Nat.beq pc 80) (some (.iconst 3, 1)) none) (cond (Nat.ble pc 81) (cond (Nat.beq pc 81) (some (.goto 4, 3)) none) (cond (Nat.beq pc 84) (some (.iconst 0, 1)) none))) (cond (Nat.ble pc 88) (cond (Nat.ble pc 85) (cond (Nat.beq pc 85) (some (.putfield 80, 3)) none) (cond (Nat.beq pc 88) (some (.aload_n 0, 1)) none)) (cond (Nat.ble pc 89) (cond (Nat.beq pc 89) (some (.getfield 80, 3)) none) (cond (Nat.beq pc 92) (some (.ifCond .le 5, 3)) none))))))) (cond (Nat.ble pc 131) (cond (Nat.ble pc 111) (cond (Nat.ble pc 102) (cond (Nat.ble pc 97) (cond (Nat.ble pc 95) (cond (Nat.beq pc 95) (some (.iconst 0, 1)) none) (cond (Nat.ble pc 96) (cond (Nat.beq pc 96) (some (.ireturn, 1)) none) (cond (Nat.beq pc 97) (some (.aload_n 0, 1)) none))) (cond (Nat.ble pc 98) (cond (Nat.beq pc 98) (some (.getfield 71, 3)) none) (cond (Nat.ble pc 101) (cond (Nat.beq pc 101) (some (.iload_n 1, 1)) none) (cond (Nat.beq pc 102) (some (.iconst 1, 1)) none)))) (cond (Nat.ble pc 105) (cond (Nat.ble pc 103) (cond (Nat.beq pc 103) (some (.bastore, 1)) none) (cond (Nat.ble pc 104) (cond (Nat.beq pc 104) (some (.iconst 0, 1)) none) (cond (Nat.beq pc 105) (some (.istore_n 3, 1)) none))) (cond (Nat.ble pc 107) (cond (Nat.ble pc 106) (cond (Nat.beq pc 106) (some (.iload_n 3, 1)) none) (cond (Nat.beq pc 107) (some (.aload_n 0, 1)) none)) (cond (Nat.ble pc 108) (cond (Nat.beq pc 108) (some (.getfield 74, 3)) none) (cond (Nat.beq pc 111) (some (.iload_n 1, 1)) none))))) (cond (Nat.ble pc 123) (cond (Nat.ble pc 116) (cond (Nat.ble pc 112) (cond (Nat.beq pc 112) (some (.iaload, 1)) none) (cond (Nat.ble pc 113) (cond (Nat.beq pc 113) (some (.if_icmp .ge 48, 3)) none) (cond (Nat.beq pc 116) (some (.aload_n 0, 1)) none))) (cond (Nat.ble pc 120) (cond (Nat.ble pc 117) (cond (Nat.beq pc 117) (some (.getfield 77, 3)) none) (cond (Nat.beq pc 120) (some (.bipush 6, 2)) none)) (cond (Nat.ble pc 122) (cond (Nat.beq pc 122) (some (.iload_n 1, 1)) none) (cond (Nat.beq pc 123) (some (.imul, 1)) none)))) (cond (Nat.ble pc 126) (cond (Nat.ble pc 124) (cond (Nat.beq pc 124) (some (.iload_n 3, 1)) none) (cond (Nat.ble pc 125) (cond (Nat.beq pc 125) (some (.iadd, 1)) none) (cond (Nat.beq pc 126) (some (.iaload, 1)) none))) (cond (Nat.ble pc 129) (cond (Nat.ble pc 127) (cond (Nat.beq pc 127) (some (.istore 4, 2)) none) (cond (Nat.beq pc 129) (some (.aload_n 0, 1)) none)) (cond (Nat.ble pc 130) (cond (Nat.beq pc 130) (some (.aload_n 0, 1)) none) (cond (Nat.beq pc 131) (some (.getfield 68, 3)) none)))))) (cond (Nat.ble pc 154) (cond (Nat.ble pc 142) (cond (Nat.ble pc 136) (cond (Nat.ble pc 134) (cond (Nat.beq pc 134) (some (.iload_n 1, 1)) none) (cond (Nat.ble pc 135) (cond (Nat.beq pc 135) (some (.iaload, 1)) none) (cond (Nat.beq pc 136) (some (.iload_n 2, 1)) none))) (cond (Nat.ble pc 137) (cond (Nat.beq pc 137) (some (.iload 4, 2)) none) (cond (Nat.ble pc 139) (cond (Nat.beq pc 139) (some (.invokevirtual 99, 3)) none) (cond (Nat.beq pc 142) (some (.aload_n 0, 1)) none)))) (cond (Nat.ble pc 147) (cond (Nat.ble pc 143) (cond (Nat.beq pc 143) (some (.getfield 47, 3)) none) (cond (Nat.ble pc 146) (cond (Nat.beq pc 146) (some (.aload_n 0, 1)) none) (cond (Nat.beq pc 147) (some (.getfield 16, 3)) none))) (cond (Nat.ble pc 152) (cond (Nat.ble pc 150) (cond (Nat.beq pc 150) (some (.iload 4, 2)) none) (cond (Nat.beq pc 152) (some (.iaload, 1)) none)) (cond (Nat.ble pc 153) (cond (Nat.beq pc 153) (some (.iconst 4, 1)) none) (cond (Nat.beq pc 154) (some (.iastore, 1)) none))))) (cond (Nat.ble pc 167) (cond (Nat.ble pc 161) (cond (Nat.ble pc 155) (cond (Nat.beq pc 155) (some (.iinc 3 1, 3)) none) (cond (Nat.ble pc 158) (cond (Nat.beq pc 158) (some (.goto (-52), 3)) none) (cond (Nat.beq pc 161) (some (.aload_n 0, 1)) none))) (cond (Nat.ble pc 165) (cond (Nat.ble pc 162) (cond (Nat.beq pc 162) (some (.getfield 19, 3)) none) (cond (Nat.beq pc 165) (some (.iconst 5, 1)) none)) (cond (Nat.ble pc 166) (cond (Nat.beq pc 166) (some (.aload_n 0, 1)) none) (cond (Nat.beq pc 167) (some (.getfield 68, 3)) none)))) (cond (Nat.ble pc 172) (cond (Nat.ble pc 170) (cond (Nat.beq pc 170) (some (.iload_n 1, 1)) none) (cond (Nat.ble pc 171) (cond (Nat.beq pc 171) (some (.iaload, 1)) none) (cond (Nat.beq pc 172) (some (.imul, 1)) none))) (cond (Nat.ble pc 174) (cond (Nat.ble pc 173) (cond (Nat.beq pc 173) (some (.iload_n 2, 1)) none) (cond (Nat.beq pc 174) (some (.iadd, 1)) none)) (cond (Nat.ble pc 175) (cond (Nat.beq pc 175) (some (.iaload, 1)) none) (cond (Nat.beq pc 176) (some (.ireturn, 1)) none))))))))
theorem tkX4_arrive : tkAll cX4_arrive tbX4_arrive := fun pc => (tk_b (tk_b (tk_b (tk_b (tk_b (tk_b (tk_l dX4_arrive_0) (tk_b (tk_l dX4_arrive_1) (tk_l dX4_arrive_2))) (tk_b (tk_l dX4_arrive_3) (tk_b (tk_l dX4_arrive_4) (tk_l dX4_arrive_7)))) (tk_b (tk_b (tk_l dX4_arrive_8) (tk_b (tk_l dX4_arrive_9) (tk_l dX4_arrive_12))) (tk_b (tk_b (tk_l dX4_arrive_15) (tk_l dX4_arrive_16)) (tk_b (tk_l dX4_arrive_19) (tk_l dX4_arrive_20))))) (tk_b (tk_b (tk_b (tk_l dX4_arrive_21) (tk_b (tk_l dX4_arrive_22) (tk_l dX4_arrive_25))) (tk_b (tk_b (tk_l dX4_arrive_28) (tk_l dX4_arrive_29)) (tk_b (tk_l dX4_arrive_32) (tk_l dX4_arrive_33)))) (tk_b (tk_b (tk_l dX4_arrive_36) (tk_b (tk_l dX4_arrive_37) (tk_l dX4_arrive_40))) (tk_b (tk_b (tk_l dX4_arrive_43) (tk_l dX4_arrive_44)) (tk_b (tk_l dX4_arrive_45) (tk_l dX4_arrive_48)))))) (tk_b (tk_b (tk_b (tk_b (tk_l dX4_arrive_49) (tk_b (tk_l dX4_arrive_50) (tk_l dX4_arrive_53))) (tk_b (tk_l dX4_arrive_54) (tk_b (tk_l dX4_arrive_57) (tk_l dX4_arrive_58)))) (tk_b (tk_b (tk_l dX4_arrive_59) (tk_b (tk_l dX4_arrive_62) (tk_l dX4_arrive_63))) (tk_b (tk_b (tk_l dX4_arrive_64) (tk_l dX4_arrive_65)) (tk_b (tk_l dX4_arrive_66) (tk_l dX4_arrive_67))))) (tk_b (tk_b (tk_b (tk_l dX4_arrive_68) (tk_b (tk_l dX4_arrive_69) (tk_l dX4_arrive_72))) (tk_b (tk_b (tk_l dX4_arrive_73) (tk_l dX4_arrive_74)) (tk_b (tk_l dX4_arrive_75) (tk_l dX4_arrive_77)))) (tk_b (tk_b (tk_l dX4_arrive_80) (tk_b (tk_l dX4_arrive_81) (tk_l dX4_arrive_84))) (tk_b (tk_b (tk_l dX4_arrive_85) (tk_l dX4_arrive_88)) (tk_b (tk_l dX4_arrive_89) (tk_l dX4_arrive_92))))))) (tk_b (tk_b (tk_b (tk_b (tk_b (tk_l dX4_arrive_95) (tk_b (tk_l dX4_arrive_96) (tk_l dX4_arrive_97))) (tk_b (tk_l dX4_arrive_98) (tk_b (tk_l dX4_arrive_101) (tk_l dX4_arrive_102)))) (tk_b (tk_b (tk_l dX4_arrive_103) (tk_b (tk_l dX4_arrive_104) (tk_l dX4_arrive_105))) (tk_b (tk_b (tk_l dX4_arrive_106) (tk_l dX4_arrive_107)) (tk_b (tk_l dX4_arrive_108) (tk_l dX4_arrive_111))))) (tk_b (tk_b (tk_b (tk_l dX4_arrive_112) (tk_b (tk_l dX4_arrive_113) (tk_l dX4_arrive_116))) (tk_b (tk_b (tk_l dX4_arrive_117) (tk_l dX4_arrive_120)) (tk_b (tk_l dX4_arrive_122) (tk_l dX4_arrive_123)))) (tk_b (tk_b (tk_l dX4_arrive_124) (tk_b (tk_l dX4_arrive_125) (tk_l dX4_arrive_126))) (tk_b (tk_b (tk_l dX4_arrive_127) (tk_l dX4_arrive_129)) (tk_b (tk_l dX4_arrive_130) (tk_l dX4_arrive_131)))))) (tk_b (tk_b (tk_b (tk_b (tk_l dX4_arrive_134) (tk_b (tk_l dX4_arrive_135) (tk_l dX4_arrive_136))) (tk_b (tk_l dX4_arrive_137) (tk_b (tk_l dX4_arrive_139) (tk_l dX4_arrive_142)))) (tk_b (tk_b (tk_l dX4_arrive_143) (tk_b (tk_l dX4_arrive_146) (tk_l dX4_arrive_147))) (tk_b (tk_b (tk_l dX4_arrive_150) (tk_l dX4_arrive_152)) (tk_b (tk_l dX4_arrive_153) (tk_l dX4_arrive_154))))) (tk_b (tk_b (tk_b (tk_l dX4_arrive_155) (tk_b (tk_l dX4_arrive_158) (tk_l dX4_arrive_161))) (tk_b (tk_b (tk_l dX4_arrive_162) (tk_l dX4_arrive_165)) (tk_b (tk_l dX4_arrive_166) (tk_l dX4_arrive_167)))) (tk_b (tk_b (tk_l dX4_arrive_170) (tk_b (tk_l dX4_arrive_171) (tk_l dX4_arrive_172))) (tk_b (tk_b (tk_l dX4_arrive_173) (tk_l dX4_arrive_174)) (tk_b (tk_l dX4_arrive_175) (tk_l dX4_arrive_176))))))))
def tbX4_trains (pc : Nat) : Option (Instr × Nat) := (cond (Nat.ble pc 2) (cond (Nat.ble pc 0) (cond (Nat.beq pc 0) (some (.aload_n 0, 1)) none) (cond (Nat.ble pc 1) (cond (Nat.beq pc 1) (some (.iconst 0, 1)) none) (cond (Nat.beq pc 2) (some (.putfield 80, 3)) none))) (cond (Nat.ble pc 5) (cond (Nat.beq pc 5) (some (.aload_n 0, 1)) none) (cond (Nat.ble pc 6) (cond (Nat.beq pc 6) (some (.getfield 183, 3)) none) (cond (Nat.beq pc 9) (some (.ireturn, 1)) none))))
theorem tkX4_trains : tkAll cX4_trains tbX4_trains := fun pc => (tk_b (tk_b (tk_l dX4_trains_0) (tk_b (tk_l dX4_trains_1) (tk_l dX4_trains_2))) (tk_b (tk_l dX4_trains_5) (tk_b (tk_l dX4_trains_6) (tk_l dX4_trains_9))))
