/-! jdk/internal/util/Preconditions -/
set_option maxRecDepth 100000
def RJ20 : String := "jdk/internal/util/Preconditions"
abbrev cJ20_checkFromToIndex : ByteArray := prog_84_method_12_code
def yJ20_checkFromToIndex : MethodName := ⟨RJ20, "checkFromToIndex", "(IIILjava/util/function/BiFunction;)I"⟩
def dkwJ20_checkFromToIndex_0 : List UInt8 := [26, 155, 0, 13, 26, 27, 163, 0, 8, 27, 28, 164, 0, 11, 45, 26, 27, 28, 184, 0, 99, 191, 26, 172]
abbrev dktJ20_checkFromToIndex_0 : List UInt8 := dkwJ20_checkFromToIndex_0 ++ []
theorem dksJ20_checkFromToIndex_0 : cJ20_checkFromToIndex.data.toList.drop 0 = dktJ20_checkFromToIndex_0 := by decide +kernel
theorem dJ20_checkFromToIndex_0 : decode cJ20_checkFromToIndex 0 = .ok (.iload_n 0, 1) := dk_26 (dk_at dksJ20_checkFromToIndex_0 0 rfl rfl)
theorem dJ20_checkFromToIndex_1 : decode cJ20_checkFromToIndex 1 = .ok (.ifCond .lt 13, 3) := dk_155 0 13 (dk_at dksJ20_checkFromToIndex_0 1 rfl rfl)
theorem dJ20_checkFromToIndex_4 : decode cJ20_checkFromToIndex 4 = .ok (.iload_n 0, 1) := dk_26 (dk_at dksJ20_checkFromToIndex_0 4 rfl rfl)
theorem dJ20_checkFromToIndex_5 : decode cJ20_checkFromToIndex 5 = .ok (.iload_n 1, 1) := dk_27 (dk_at dksJ20_checkFromToIndex_0 5 rfl rfl)
theorem dJ20_checkFromToIndex_6 : decode cJ20_checkFromToIndex 6 = .ok (.if_icmp .gt 8, 3) := dk_163 0 8 (dk_at dksJ20_checkFromToIndex_0 6 rfl rfl)
theorem dJ20_checkFromToIndex_9 : decode cJ20_checkFromToIndex 9 = .ok (.iload_n 1, 1) := dk_27 (dk_at dksJ20_checkFromToIndex_0 9 rfl rfl)
theorem dJ20_checkFromToIndex_10 : decode cJ20_checkFromToIndex 10 = .ok (.iload_n 2, 1) := dk_28 (dk_at dksJ20_checkFromToIndex_0 10 rfl rfl)
theorem dJ20_checkFromToIndex_11 : decode cJ20_checkFromToIndex 11 = .ok (.if_icmp .le 11, 3) := dk_164 0 11 (dk_at dksJ20_checkFromToIndex_0 11 rfl rfl)
theorem dJ20_checkFromToIndex_14 : decode cJ20_checkFromToIndex 14 = .ok (.aload_n 3, 1) := dk_45 (dk_at dksJ20_checkFromToIndex_0 14 rfl rfl)
theorem dJ20_checkFromToIndex_15 : decode cJ20_checkFromToIndex 15 = .ok (.iload_n 0, 1) := dk_26 (dk_at dksJ20_checkFromToIndex_0 15 rfl rfl)
theorem dJ20_checkFromToIndex_16 : decode cJ20_checkFromToIndex 16 = .ok (.iload_n 1, 1) := dk_27 (dk_at dksJ20_checkFromToIndex_0 16 rfl rfl)
theorem dJ20_checkFromToIndex_17 : decode cJ20_checkFromToIndex 17 = .ok (.iload_n 2, 1) := dk_28 (dk_at dksJ20_checkFromToIndex_0 17 rfl rfl)
theorem dJ20_checkFromToIndex_18 : decode cJ20_checkFromToIndex 18 = .ok (.invokestatic 99, 3) := dk_184 0 99 (dk_at dksJ20_checkFromToIndex_0 18 rfl rfl)
theorem dJ20_checkFromToIndex_21 : decode cJ20_checkFromToIndex 21 = .ok (.athrow, 1) := dk_191 (dk_at dksJ20_checkFromToIndex_0 21 rfl rfl)
theorem dJ20_checkFromToIndex_22 : decode cJ20_checkFromToIndex 22 = .ok (.iload_n 0, 1) := dk_26 (dk_at dksJ20_checkFromToIndex_0 22 rfl rfl)
theorem dJ20_checkFromToIndex_23 : decode cJ20_checkFromToIndex 23 = .ok (.ireturn, 1) := dk_172 (dk_at dksJ20_checkFromToIndex_0 23 rfl rfl)
abbrev cJ20_checkFromIndexSize : ByteArray := prog_84_method_13_code
def yJ20_checkFromIndexSize : MethodName := ⟨RJ20, "checkFromIndexSize", "(IIILjava/util/function/BiFunction;)I"⟩
def dkwJ20_checkFromIndexSize_1 : List UInt8 := [172]
abbrev dktJ20_checkFromIndexSize_1 : List UInt8 := dkwJ20_checkFromIndexSize_1 ++ []
def dkwJ20_checkFromIndexSize_0 : List UInt8 := [28, 26, 128, 27, 128, 155, 0, 10, 27, 28, 26, 100, 164, 0, 11, 45, 26, 27, 28, 184, 0, 103, 191, 26]
abbrev dktJ20_checkFromIndexSize_0 : List UInt8 := dkwJ20_checkFromIndexSize_0 ++ dktJ20_checkFromIndexSize_1
theorem dksJ20_checkFromIndexSize_0 : cJ20_checkFromIndexSize.data.toList.drop 0 = dktJ20_checkFromIndexSize_0 := by decide +kernel
theorem dksJ20_checkFromIndexSize_1 : cJ20_checkFromIndexSize.data.toList.drop 24 = dktJ20_checkFromIndexSize_1 := dk_seg dksJ20_checkFromIndexSize_0 24 rfl rfl
theorem dJ20_checkFromIndexSize_0 : decode cJ20_checkFromIndexSize 0 = .ok (.iload_n 2, 1) := dk_28 (dk_at dksJ20_checkFromIndexSize_0 0 rfl rfl)
theorem dJ20_checkFromIndexSize_1 : decode cJ20_checkFromIndexSize 1 = .ok (.iload_n 0, 1) := dk_26 (dk_at dksJ20_checkFromIndexSize_0 1 rfl rfl)
theorem dJ20_checkFromIndexSize_2 : decode cJ20_checkFromIndexSize 2 = .ok (.ior, 1) := dk_128 (dk_at dksJ20_checkFromIndexSize_0 2 rfl rfl)
theorem dJ20_checkFromIndexSize_3 : decode cJ20_checkFromIndexSize 3 = .ok (.iload_n 1, 1) := dk_27 (dk_at dksJ20_checkFromIndexSize_0 3 rfl rfl)
theorem dJ20_checkFromIndexSize_4 : decode cJ20_checkFromIndexSize 4 = .ok (.ior, 1) := dk_128 (dk_at dksJ20_checkFromIndexSize_0 4 rfl rfl)
theorem dJ20_checkFromIndexSize_5 : decode cJ20_checkFromIndexSize 5 = .ok (.ifCond .lt 10, 3) := dk_155 0 10 (dk_at dksJ20_checkFromIndexSize_0 5 rfl rfl)
theorem dJ20_checkFromIndexSize_8 : decode cJ20_checkFromIndexSize 8 = .ok (.iload_n 1, 1) := dk_27 (dk_at dksJ20_checkFromIndexSize_0 8 rfl rfl)
theorem dJ20_checkFromIndexSize_9 : decode cJ20_checkFromIndexSize 9 = .ok (.iload_n 2, 1) := dk_28 (dk_at dksJ20_checkFromIndexSize_0 9 rfl rfl)
theorem dJ20_checkFromIndexSize_10 : decode cJ20_checkFromIndexSize 10 = .ok (.iload_n 0, 1) := dk_26 (dk_at dksJ20_checkFromIndexSize_0 10 rfl rfl)
theorem dJ20_checkFromIndexSize_11 : decode cJ20_checkFromIndexSize 11 = .ok (.isub, 1) := dk_100 (dk_at dksJ20_checkFromIndexSize_0 11 rfl rfl)
theorem dJ20_checkFromIndexSize_12 : decode cJ20_checkFromIndexSize 12 = .ok (.if_icmp .le 11, 3) := dk_164 0 11 (dk_at dksJ20_checkFromIndexSize_0 12 rfl rfl)
theorem dJ20_checkFromIndexSize_15 : decode cJ20_checkFromIndexSize 15 = .ok (.aload_n 3, 1) := dk_45 (dk_at dksJ20_checkFromIndexSize_0 15 rfl rfl)
theorem dJ20_checkFromIndexSize_16 : decode cJ20_checkFromIndexSize 16 = .ok (.iload_n 0, 1) := dk_26 (dk_at dksJ20_checkFromIndexSize_0 16 rfl rfl)
theorem dJ20_checkFromIndexSize_17 : decode cJ20_checkFromIndexSize 17 = .ok (.iload_n 1, 1) := dk_27 (dk_at dksJ20_checkFromIndexSize_0 17 rfl rfl)
theorem dJ20_checkFromIndexSize_18 : decode cJ20_checkFromIndexSize 18 = .ok (.iload_n 2, 1) := dk_28 (dk_at dksJ20_checkFromIndexSize_0 18 rfl rfl)
theorem dJ20_checkFromIndexSize_19 : decode cJ20_checkFromIndexSize 19 = .ok (.invokestatic 103, 3) := dk_184 0 103 (dk_at dksJ20_checkFromIndexSize_0 19 rfl rfl)
theorem dJ20_checkFromIndexSize_22 : decode cJ20_checkFromIndexSize 22 = .ok (.athrow, 1) := dk_191 (dk_at dksJ20_checkFromIndexSize_0 22 rfl rfl)
theorem dJ20_checkFromIndexSize_23 : decode cJ20_checkFromIndexSize 23 = .ok (.iload_n 0, 1) := dk_26 (dk_at dksJ20_checkFromIndexSize_0 23 rfl rfl)
theorem dJ20_checkFromIndexSize_24 : decode cJ20_checkFromIndexSize 24 = .ok (.ireturn, 1) := dk_172 (dk_at dksJ20_checkFromIndexSize_1 0 rfl rfl)
abbrev cJ20_checkIndex : ByteArray := prog_84_method_11_code
def yJ20_checkIndex : MethodName := ⟨RJ20, "checkIndex", "(IILjava/util/function/BiFunction;)I"⟩
def dkwJ20_checkIndex_0 : List UInt8 := [26, 155, 0, 8, 26, 27, 161, 0, 10, 44, 26, 27, 184, 0, 95, 191, 26, 172]
abbrev dktJ20_checkIndex_0 : List UInt8 := dkwJ20_checkIndex_0 ++ []
theorem dksJ20_checkIndex_0 : cJ20_checkIndex.data.toList.drop 0 = dktJ20_checkIndex_0 := by decide +kernel
theorem dJ20_checkIndex_0 : decode cJ20_checkIndex 0 = .ok (.iload_n 0, 1) := dk_26 (dk_at dksJ20_checkIndex_0 0 rfl rfl)
theorem dJ20_checkIndex_1 : decode cJ20_checkIndex 1 = .ok (.ifCond .lt 8, 3) := dk_155 0 8 (dk_at dksJ20_checkIndex_0 1 rfl rfl)
theorem dJ20_checkIndex_4 : decode cJ20_checkIndex 4 = .ok (.iload_n 0, 1) := dk_26 (dk_at dksJ20_checkIndex_0 4 rfl rfl)
theorem dJ20_checkIndex_5 : decode cJ20_checkIndex 5 = .ok (.iload_n 1, 1) := dk_27 (dk_at dksJ20_checkIndex_0 5 rfl rfl)
theorem dJ20_checkIndex_6 : decode cJ20_checkIndex 6 = .ok (.if_icmp .lt 10, 3) := dk_161 0 10 (dk_at dksJ20_checkIndex_0 6 rfl rfl)
theorem dJ20_checkIndex_9 : decode cJ20_checkIndex 9 = .ok (.aload_n 2, 1) := dk_44 (dk_at dksJ20_checkIndex_0 9 rfl rfl)
theorem dJ20_checkIndex_10 : decode cJ20_checkIndex 10 = .ok (.iload_n 0, 1) := dk_26 (dk_at dksJ20_checkIndex_0 10 rfl rfl)
theorem dJ20_checkIndex_11 : decode cJ20_checkIndex 11 = .ok (.iload_n 1, 1) := dk_27 (dk_at dksJ20_checkIndex_0 11 rfl rfl)
theorem dJ20_checkIndex_12 : decode cJ20_checkIndex 12 = .ok (.invokestatic 95, 3) := dk_184 0 95 (dk_at dksJ20_checkIndex_0 12 rfl rfl)
theorem dJ20_checkIndex_15 : decode cJ20_checkIndex 15 = .ok (.athrow, 1) := dk_191 (dk_at dksJ20_checkIndex_0 15 rfl rfl)
theorem dJ20_checkIndex_16 : decode cJ20_checkIndex 16 = .ok (.iload_n 0, 1) := dk_26 (dk_at dksJ20_checkIndex_0 16 rfl rfl)
theorem dJ20_checkIndex_17 : decode cJ20_checkIndex 17 = .ok (.ireturn, 1) := dk_172 (dk_at dksJ20_checkIndex_0 17 rfl rfl)
theorem q73 : (Jvm.Cond.initialized "jdk/internal/util/Preconditions") ∈ lw_all := lw_g (lw_at lw_m1 25 rfl) rfl
theorem q563 : (Jvm.Cond.laysStatic "jdk/internal/util/Preconditions" "SIOOBE_FORMATTER" "Ljava/util/function/BiFunction;") ∈ lw_tbl := lw_at lw_m3 35 rfl
theorem q565 : (Jvm.Cond.static ({ cls := "jdk/internal/util/Preconditions", name := "checkFromToIndex", desc := "(IIILjava/util/function/BiFunction;)I" } : Jvm.MethodName)) ∈ lw_all := lw_g (lw_at lw_m3 37 rfl) rfl
theorem q566 : (Jvm.Cond.code ({ cls := "jdk/internal/util/Preconditions", name := "checkFromToIndex", desc := "(IIILjava/util/function/BiFunction;)I" } : Jvm.MethodName) prog_84_method_12_code (4 : Nat) (Option.some Jvm.ClassFile.FieldType.int)) ∈ lw_all := lw_g (lw_at lw_m3 38 rfl) rfl
theorem q604 : (Jvm.Cond.static ({ cls := "jdk/internal/util/Preconditions", name := "checkFromIndexSize", desc := "(IIILjava/util/function/BiFunction;)I" } : Jvm.MethodName)) ∈ lw_all := lw_g (lw_at lw_m3 76 rfl) rfl
theorem q605 : (Jvm.Cond.code ({ cls := "jdk/internal/util/Preconditions", name := "checkFromIndexSize", desc := "(IIILjava/util/function/BiFunction;)I" } : Jvm.MethodName) prog_84_method_13_code (4 : Nat) (Option.some Jvm.ClassFile.FieldType.int)) ∈ lw_all := lw_g (lw_at lw_m3 77 rfl) rfl
theorem q1282 : (Jvm.Cond.static ({ cls := "jdk/internal/util/Preconditions", name := "checkIndex", desc := "(IILjava/util/function/BiFunction;)I" } : Jvm.MethodName)) ∈ lw_all := lw_g (lw_at lw_m6 34 rfl) rfl
theorem q1283 : (Jvm.Cond.code ({ cls := "jdk/internal/util/Preconditions", name := "checkIndex", desc := "(IILjava/util/function/BiFunction;)I" } : Jvm.MethodName) prog_84_method_11_code (3 : Nat) (Option.some Jvm.ClassFile.FieldType.int)) ∈ lw_all := lw_g (lw_at lw_m6 35 rfl) rfl

def tbJ20_checkFromToIndex (pc : Nat) : Option (Instr × Nat) := (cond (Nat.ble pc 11) (cond (Nat.ble pc 5) (cond (Nat.ble pc 1) (cond (Nat.ble pc 0) (cond (Nat.beq pc 0) (some (.iload_n 0, 1)) none) (cond (Nat.beq pc 1) (some (.ifCond .lt 13, 3)) none)) (cond (Nat.ble pc 4) (cond (Nat.beq pc 4) (some (.iload_n 0, 1)) none) (cond (Nat.beq pc 5) (some (.iload_n 1, 1)) none))) (cond (Nat.ble pc 9) (cond (Nat.ble pc 6) (cond (Nat.beq pc 6) (some (.if_icmp .gt 8, 3)) none) (cond (Nat.beq pc 9) (some (.iload_n 1, 1)) none)) (cond (Nat.ble pc 10) (cond (Nat.beq pc 10) (some (.iload_n 2, 1)) none) (cond (Nat.beq pc 11) (some (.if_icmp .le 11, 3)) none)))) (cond (Nat.ble pc 17) (cond (Nat.ble pc 15) (cond (Nat.ble pc 14) (cond (Nat.beq pc 14) (some (.aload_n 3, 1)) none) (cond (Nat.beq pc 15) (some (.iload_n 0, 1)) none)) (cond (Nat.ble pc 16) (cond (Nat.beq pc 16) (some (.iload_n 1, 1)) none) (cond (Nat.beq pc 17) (some (.iload_n 2, 1)) none))) (cond (Nat.ble pc 21) (cond (Nat.ble pc 18) (cond (Nat.beq pc 18) (some (.invokestatic 99, 3)) none) (cond (Nat.beq pc 21) (some (.athrow, 1)) none)) (cond (Nat.ble pc 22) (cond (Nat.beq pc 22) (some (.iload_n 0, 1)) none) (cond (Nat.beq pc 23) (some (.ireturn, 1)) none)))))
theorem tkJ20_checkFromToIndex : tkAll cJ20_checkFromToIndex tbJ20_checkFromToIndex := fun pc => (tk_b (tk_b (tk_b (tk_b (tk_l dJ20_checkFromToIndex_0) (tk_l dJ20_checkFromToIndex_1)) (tk_b (tk_l dJ20_checkFromToIndex_4) (tk_l dJ20_checkFromToIndex_5))) (tk_b (tk_b (tk_l dJ20_checkFromToIndex_6) (tk_l dJ20_checkFromToIndex_9)) (tk_b (tk_l dJ20_checkFromToIndex_10) (tk_l dJ20_checkFromToIndex_11)))) (tk_b (tk_b (tk_b (tk_l dJ20_checkFromToIndex_14) (tk_l dJ20_checkFromToIndex_15)) (tk_b (tk_l dJ20_checkFromToIndex_16) (tk_l dJ20_checkFromToIndex_17))) (tk_b (tk_b (tk_l dJ20_checkFromToIndex_18) (tk_l dJ20_checkFromToIndex_21)) (tk_b (tk_l dJ20_checkFromToIndex_22) (tk_l dJ20_checkFromToIndex_23)))))
def tbJ20_checkFromIndexSize (pc : Nat) : Option (Instr × Nat) := (cond (Nat.ble pc 10) (cond (Nat.ble pc 3) (cond (Nat.ble pc 1) (cond (Nat.ble pc 0) (cond (Nat.beq pc 0) (some (.iload_n 2, 1)) none) (cond (Nat.beq pc 1) (some (.iload_n 0, 1)) none)) (cond (Nat.ble pc 2) (cond (Nat.beq pc 2) (some (.ior, 1)) none) (cond (Nat.beq pc 3) (some (.iload_n 1, 1)) none))) (cond (Nat.ble pc 5) (cond (Nat.ble pc 4) (cond (Nat.beq pc 4) (some (.ior, 1)) none) (cond (Nat.beq pc 5) (some (.ifCond .lt 10, 3)) none)) (cond (Nat.ble pc 8) (cond (Nat.beq pc 8) (some (.iload_n 1, 1)) none) (cond (Nat.ble pc 9) (cond (Nat.beq pc 9) (some (.iload_n 2, 1)) none) (cond (Nat.beq pc 10) (some (.iload_n 0, 1)) none))))) (cond (Nat.ble pc 17) (cond (Nat.ble pc 12) (cond (Nat.ble pc 11) (cond (Nat.beq pc 11) (some (.isub, 1)) none) (cond (Nat.beq pc 12) (some (.if_icmp .le 11, 3)) none)) (cond (Nat.ble pc 15) (cond (Nat.beq pc 15) (some (.aload_n 3, 1)) none) (cond (Nat.ble pc 16) (cond (Nat.beq pc 16) (some (.iload_n 0, 1)) none) (cond (Nat.beq pc 17) (some (.iload_n 1, 1)) none)))) (cond (Nat.ble pc 19) (cond (Nat.ble pc 18) (cond (Nat.beq pc 18) (some (.iload_n 2, 1)) none) (cond (Nat.beq pc 19) (some (.invokestatic 103, 3)) none)) (cond (Nat.ble pc 22) (cond (Nat.beq pc 22) (some (.athrow, 1)) none) (cond (Nat.ble pc 23) (cond (Nat.beq pc 23) (some (.iload_n 0, 1)) none) (cond (Nat.beq pc 24) (some (.ireturn, 1)) none))))))
theorem tkJ20_checkFromIndexSize : tkAll cJ20_checkFromIndexSize tbJ20_checkFromIndexSize := fun pc => (tk_b (tk_b (tk_b (tk_b (tk_l dJ20_checkFromIndexSize_0) (tk_l dJ20_checkFromIndexSize_1)) (tk_b (tk_l dJ20_checkFromIndexSize_2) (tk_l dJ20_checkFromIndexSize_3))) (tk_b (tk_b (tk_l dJ20_checkFromIndexSize_4) (tk_l dJ20_checkFromIndexSize_5)) (tk_b (tk_l dJ20_checkFromIndexSize_8) (tk_b (tk_l dJ20_checkFromIndexSize_9) (tk_l dJ20_checkFromIndexSize_10))))) (tk_b (tk_b (tk_b (tk_l dJ20_checkFromIndexSize_11) (tk_l dJ20_checkFromIndexSize_12)) (tk_b (tk_l dJ20_checkFromIndexSize_15) (tk_b (tk_l dJ20_checkFromIndexSize_16) (tk_l dJ20_checkFromIndexSize_17)))) (tk_b (tk_b (tk_l dJ20_checkFromIndexSize_18) (tk_l dJ20_checkFromIndexSize_19)) (tk_b (tk_l dJ20_checkFromIndexSize_22) (tk_b (tk_l dJ20_checkFromIndexSize_23) (tk_l dJ20_checkFromIndexSize_24))))))
def tbJ20_checkIndex (pc : Nat) : Option (Instr × Nat) := (cond (Nat.ble pc 9) (cond (Nat.ble pc 4) (cond (Nat.ble pc 0) (cond (Nat.beq pc 0) (some (.iload_n 0, 1)) none) (cond (Nat.ble pc 1) (cond (Nat.beq pc 1) (some (.ifCond .lt 8, 3)) none) (cond (Nat.beq pc 4) (some (.iload_n 0, 1)) none))) (cond (Nat.ble pc 5) (cond (Nat.beq pc 5) (some (.iload_n 1, 1)) none) (cond (Nat.ble pc 6) (cond (Nat.beq pc 6) (some (.if_icmp .lt 10, 3)) none) (cond (Nat.beq pc 9) (some (.aload_n 2, 1)) none)))) (cond (Nat.ble pc 12) (cond (Nat.ble pc 10) (cond (Nat.beq pc 10) (some (.iload_n 0, 1)) none) (cond (Nat.ble pc 11) (cond (Nat.beq pc 11) (some (.iload_n 1, 1)) none) (cond (Nat.beq pc 12) (some (.invokestatic 95, 3)) none))) (cond (Nat.ble pc 15) (cond (Nat.beq pc 15) (some (.athrow, 1)) none) (cond (Nat.ble pc 16) (cond (Nat.beq pc 16) (some (.iload_n 0, 1)) none) (cond (Nat.beq pc 17) (some (.ireturn, 1)) none)))))
theorem tkJ20_checkIndex : tkAll cJ20_checkIndex tbJ20_checkIndex := fun pc => (tk_b (tk_b (tk_b (tk_l dJ20_checkIndex_0) (tk_b (tk_l dJ20_checkIndex_1) (tk_l dJ20_checkIndex_4))) (tk_b (tk_l dJ20_checkIndex_5) (tk_b (tk_l dJ20_checkIndex_6) (tk_l dJ20_checkIndex_9)))) (tk_b (tk_b (tk_l dJ20_checkIndex_10) (tk_b (tk_l dJ20_checkIndex_11) (tk_l dJ20_checkIndex_12))) (tk_b (tk_l dJ20_checkIndex_15) (tk_b (tk_l dJ20_checkIndex_16) (tk_l dJ20_checkIndex_17)))))
theorem mJ27_105 : gLkS RJ27 105 yJ20_checkIndex cJ20_checkIndex 3 (some .int) 3 := ⟨lw_S q1281 q1282 q73 q1283, by decide +kernel, by decide +kernel⟩
