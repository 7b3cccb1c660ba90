/-! InterestTaken$Text -/
set_option maxRecDepth 100000
def RX1 : String := "InterestTaken$Text"
abbrev cX1_init : ByteArray := prog_9_method_1_code
def yX1_init : MethodName := ⟨RX1, "<init>", "(II)V"⟩
def dkwX1_init_1 : List UInt8 := [181, 0, 22, 177]
abbrev dktX1_init_1 : List UInt8 := dkwX1_init_1 ++ []
def dkwX1_init_0 : List UInt8 := [42, 183, 0, 3, 42, 187, 0, 9, 89, 183, 0, 11, 181, 0, 12, 42, 27, 188, 8, 181, 0, 18, 42, 28]
abbrev dktX1_init_0 : List UInt8 := dkwX1_init_0 ++ dktX1_init_1
theorem dksX1_init_0 : cX1_init.data.toList.drop 0 = dktX1_init_0 := by decide +kernel
theorem dksX1_init_1 : cX1_init.data.toList.drop 24 = dktX1_init_1 := dk_seg dksX1_init_0 24 rfl rfl
theorem dX1_init_0 : decode cX1_init 0 = .ok (.aload_n 0, 1) := dk_42 (dk_at dksX1_init_0 0 rfl rfl)
theorem dX1_init_1 : decode cX1_init 1 = .ok (.invokespecial 3, 3) := dk_183 0 3 (dk_at dksX1_init_0 1 rfl rfl)
theorem dX1_init_4 : decode cX1_init 4 = .ok (.aload_n 0, 1) := dk_42 (dk_at dksX1_init_0 4 rfl rfl)
theorem dX1_init_5 : decode cX1_init 5 = .ok (.new 9, 3) := dk_187 0 9 (dk_at dksX1_init_0 5 rfl rfl)
theorem dX1_init_8 : decode cX1_init 8 = .ok (.dup, 1) := dk_89 (dk_at dksX1_init_0 8 rfl rfl)
theorem dX1_init_9 : decode cX1_init 9 = .ok (.invokespecial 11, 3) := dk_183 0 11 (dk_at dksX1_init_0 9 rfl rfl)
theorem dX1_init_12 : decode cX1_init 12 = .ok (.putfield 12, 3) := dk_181 0 12 (dk_at dksX1_init_0 12 rfl rfl)
theorem dX1_init_15 : decode cX1_init 15 = .ok (.aload_n 0, 1) := dk_42 (dk_at dksX1_init_0 15 rfl rfl)
theorem dX1_init_16 : decode cX1_init 16 = .ok (.iload_n 1, 1) := dk_27 (dk_at dksX1_init_0 16 rfl rfl)
theorem dX1_init_17 : decode cX1_init 17 = .ok (.newarray .byte, 2) := dk_188_8 (dk_at dksX1_init_0 17 rfl rfl)
theorem dX1_init_19 : decode cX1_init 19 = .ok (.putfield 18, 3) := dk_181 0 18 (dk_at dksX1_init_0 19 rfl rfl)
theorem dX1_init_22 : decode cX1_init 22 = .ok (.aload_n 0, 1) := dk_42 (dk_at dksX1_init_0 22 rfl rfl)
theorem dX1_init_23 : decode cX1_init 23 = .ok (.iload_n 2, 1) := dk_28 (dk_at dksX1_init_0 23 rfl rfl)
theorem dX1_init_24 : decode cX1_init 24 = .ok (.putfield 22, 3) := dk_181 0 22 (dk_at dksX1_init_1 0 rfl rfl)
theorem dX1_init_27 : decode cX1_init 27 = .ok (.return_, 1) := dk_177 (dk_at dksX1_init_1 3 rfl rfl)
abbrev cX1_type : ByteArray := prog_9_method_3_code
def yX1_type : MethodName := ⟨RX1, "type", "(I)I"⟩
def dkwX1_type_1 : List UInt8 := [145, 84, 42, 89, 180, 0, 26, 4, 96, 181, 0, 26, 42, 3, 181, 0, 29, 42, 180, 0, 26, 172]
abbrev dktX1_type_1 : List UInt8 := dkwX1_type_1 ++ []
def dkwX1_type_0 : List UInt8 := [42, 180, 0, 26, 42, 180, 0, 18, 190, 160, 0, 6, 16, 252, 172, 42, 180, 0, 18, 42, 180, 0, 26, 27]
abbrev dktX1_type_0 : List UInt8 := dkwX1_type_0 ++ dktX1_type_1
theorem dksX1_type_0 : cX1_type.data.toList.drop 0 = dktX1_type_0 := by decide +kernel
theorem dksX1_type_1 : cX1_type.data.toList.drop 24 = dktX1_type_1 := dk_seg dksX1_type_0 24 rfl rfl
theorem dX1_type_0 : decode cX1_type 0 = .ok (.aload_n 0, 1) := dk_42 (dk_at dksX1_type_0 0 rfl rfl)
theorem dX1_type_1 : decode cX1_type 1 = .ok (.getfield 26, 3) := dk_180 0 26 (dk_at dksX1_type_0 1 rfl rfl)
theorem dX1_type_4 : decode cX1_type 4 = .ok (.aload_n 0, 1) := dk_42 (dk_at dksX1_type_0 4 rfl rfl)
theorem dX1_type_5 : decode cX1_type 5 = .ok (.getfield 18, 3) := dk_180 0 18 (dk_at dksX1_type_0 5 rfl rfl)
theorem dX1_type_8 : decode cX1_type 8 = .ok (.arraylength, 1) := dk_190 (dk_at dksX1_type_0 8 rfl rfl)
theorem dX1_type_9 : decode cX1_type 9 = .ok (.if_icmp .ne 6, 3) := dk_160 0 6 (dk_at dksX1_type_0 9 rfl rfl)
theorem dX1_type_12 : decode cX1_type 12 = .ok (.bipush (-4), 2) := dk_16 252 (dk_at dksX1_type_0 12 rfl rfl)
theorem dX1_type_14 : decode cX1_type 14 = .ok (.ireturn, 1) := dk_172 (dk_at dksX1_type_0 14 rfl rfl)
theorem dX1_type_15 : decode cX1_type 15 = .ok (.aload_n 0, 1) := dk_42 (dk_at dksX1_type_0 15 rfl rfl)
theorem dX1_type_16 : decode cX1_type 16 = .ok (.getfield 18, 3) := dk_180 0 18 (dk_at dksX1_type_0 16 rfl rfl)
theorem dX1_type_19 : decode cX1_type 19 = .ok (.aload_n 0, 1) := dk_42 (dk_at dksX1_type_0 19 rfl rfl)
theorem dX1_type_20 : decode cX1_type 20 = .ok (.getfield 26, 3) := dk_180 0 26 (dk_at dksX1_type_0 20 rfl rfl)
theorem dX1_type_23 : decode cX1_type 23 = .ok (.iload_n 1, 1) := dk_27 (dk_at dksX1_type_0 23 rfl rfl)
theorem dX1_type_24 : decode cX1_type 24 = .ok (.i2b, 1) := dk_145 (dk_at dksX1_type_1 0 rfl rfl)
theorem dX1_type_25 : decode cX1_type 25 = .ok (.bastore, 1) := dk_84 (dk_at dksX1_type_1 1 rfl rfl)
theorem dX1_type_26 : decode cX1_type 26 = .ok (.aload_n 0, 1) := dk_42 (dk_at dksX1_type_1 2 rfl rfl)
theorem dX1_type_27 : decode cX1_type 27 = .ok (.dup, 1) := dk_89 (dk_at dksX1_type_1 3 rfl rfl)
theorem dX1_type_28 : decode cX1_type 28 = .ok (.getfield 26, 3) := dk_180 0 26 (dk_at dksX1_type_1 4 rfl rfl)
theorem dX1_type_31 : decode cX1_type 31 = .ok (.iconst 1, 1) := dk_4 (dk_at dksX1_type_1 7 rfl rfl)
theorem dX1_type_32 : decode cX1_type 32 = .ok (.iadd, 1) := dk_96 (dk_at dksX1_type_1 8 rfl rfl)
theorem dX1_type_33 : decode cX1_type 33 = .ok (.putfield 26, 3) := dk_181 0 26 (dk_at dksX1_type_1 9 rfl rfl)
theorem dX1_type_36 : decode cX1_type 36 = .ok (.aload_n 0, 1) := dk_42 (dk_at dksX1_type_1 12 rfl rfl)
theorem dX1_type_37 : decode cX1_type 37 = .ok (.iconst 0, 1) := dk_3 (dk_at dksX1_type_1 13 rfl rfl)
theorem dX1_type_38 : decode cX1_type 38 = .ok (.putfield 29, 3) := dk_181 0 29 (dk_at dksX1_type_1 14 rfl rfl)
theorem dX1_type_41 : decode cX1_type 41 = .ok (.aload_n 0, 1) := dk_42 (dk_at dksX1_type_1 17 rfl rfl)
theorem dX1_type_42 : decode cX1_type 42 = .ok (.getfield 26, 3) := dk_180 0 26 (dk_at dksX1_type_1 18 rfl rfl)
theorem dX1_type_45 : decode cX1_type 45 = .ok (.ireturn, 1) := dk_172 (dk_at dksX1_type_1 21 rfl rfl)
abbrev cX1_wipe : ByteArray := prog_9_method_4_code
def yX1_wipe : MethodName := ⟨RX1, "wipe", "()I"⟩
def dkwX1_wipe_0 : List UInt8 := [42, 180, 0, 26, 60, 42, 3, 181, 0, 26, 42, 3, 181, 0, 29, 27, 172]
abbrev dktX1_wipe_0 : List UInt8 := dkwX1_wipe_0 ++ []
theorem dksX1_wipe_0 : cX1_wipe.data.toList.drop 0 = dktX1_wipe_0 := by decide +kernel
theorem dX1_wipe_0 : decode cX1_wipe 0 = .ok (.aload_n 0, 1) := dk_42 (dk_at dksX1_wipe_0 0 rfl rfl)
theorem dX1_wipe_1 : decode cX1_wipe 1 = .ok (.getfield 26, 3) := dk_180 0 26 (dk_at dksX1_wipe_0 1 rfl rfl)
theorem dX1_wipe_4 : decode cX1_wipe 4 = .ok (.istore_n 1, 1) := dk_60 (dk_at dksX1_wipe_0 4 rfl rfl)
theorem dX1_wipe_5 : decode cX1_wipe 5 = .ok (.aload_n 0, 1) := dk_42 (dk_at dksX1_wipe_0 5 rfl rfl)
theorem dX1_wipe_6 : decode cX1_wipe 6 = .ok (.iconst 0, 1) := dk_3 (dk_at dksX1_wipe_0 6 rfl rfl)
theorem dX1_wipe_7 : decode cX1_wipe 7 = .ok (.putfield 26, 3) := dk_181 0 26 (dk_at dksX1_wipe_0 7 rfl rfl)
theorem dX1_wipe_10 : decode cX1_wipe 10 = .ok (.aload_n 0, 1) := dk_42 (dk_at dksX1_wipe_0 10 rfl rfl)
theorem dX1_wipe_11 : decode cX1_wipe 11 = .ok (.iconst 0, 1) := dk_3 (dk_at dksX1_wipe_0 11 rfl rfl)
theorem dX1_wipe_12 : decode cX1_wipe 12 = .ok (.putfield 29, 3) := dk_181 0 29 (dk_at dksX1_wipe_0 12 rfl rfl)
theorem dX1_wipe_15 : decode cX1_wipe 15 = .ok (.iload_n 1, 1) := dk_27 (dk_at dksX1_wipe_0 15 rfl rfl)
theorem dX1_wipe_16 : decode cX1_wipe 16 = .ok (.ireturn, 1) := dk_172 (dk_at dksX1_wipe_0 16 rfl rfl)
abbrev cX1_undo : ByteArray := prog_9_method_5_code
def yX1_undo : MethodName := ⟨RX1, "undo", "()I"⟩
def dkwX1_undo_1 : List UInt8 := [181, 0, 29, 42, 180, 0, 26, 172]
abbrev dktX1_undo_1 : List UInt8 := dkwX1_undo_1 ++ []
def dkwX1_undo_0 : List UInt8 := [42, 180, 0, 26, 154, 0, 6, 16, 253, 172, 42, 89, 180, 0, 26, 4, 100, 181, 0, 26, 42, 3]
abbrev dktX1_undo_0 : List UInt8 := dkwX1_undo_0 ++ dktX1_undo_1
theorem dksX1_undo_0 : cX1_undo.data.toList.drop 0 = dktX1_undo_0 := by decide +kernel
theorem dksX1_undo_1 : cX1_undo.data.toList.drop 22 = dktX1_undo_1 := dk_seg dksX1_undo_0 22 rfl rfl
theorem dX1_undo_0 : decode cX1_undo 0 = .ok (.aload_n 0, 1) := dk_42 (dk_at dksX1_undo_0 0 rfl rfl)
theorem dX1_undo_1 : decode cX1_undo 1 = .ok (.getfield 26, 3) := dk_180 0 26 (dk_at dksX1_undo_0 1 rfl rfl)
theorem dX1_undo_4 : decode cX1_undo 4 = .ok (.ifCond .ne 6, 3) := dk_154 0 6 (dk_at dksX1_undo_0 4 rfl rfl)
theorem dX1_undo_7 : decode cX1_undo 7 = .ok (.bipush (-3), 2) := dk_16 253 (dk_at dksX1_undo_0 7 rfl rfl)
theorem dX1_undo_9 : decode cX1_undo 9 = .ok (.ireturn, 1) := dk_172 (dk_at dksX1_undo_0 9 rfl rfl)
theorem dX1_undo_10 : decode cX1_undo 10 = .ok (.aload_n 0, 1) := dk_42 (dk_at dksX1_undo_0 10 rfl rfl)
theorem dX1_undo_11 : decode cX1_undo 11 = .ok (.dup, 1) := dk_89 (dk_at dksX1_undo_0 11 rfl rfl)
theorem dX1_undo_12 : decode cX1_undo 12 = .ok (.getfield 26, 3) := dk_180 0 26 (dk_at dksX1_undo_0 12 rfl rfl)
theorem dX1_undo_15 : decode cX1_undo 15 = .ok (.iconst 1, 1) := dk_4 (dk_at dksX1_undo_0 15 rfl rfl)
theorem dX1_undo_16 : decode cX1_undo 16 = .ok (.isub, 1) := dk_100 (dk_at dksX1_undo_0 16 rfl rfl)
theorem dX1_undo_17 : decode cX1_undo 17 = .ok (.putfield 26, 3) := dk_181 0 26 (dk_at dksX1_undo_0 17 rfl rfl)
theorem dX1_undo_20 : decode cX1_undo 20 = .ok (.aload_n 0, 1) := dk_42 (dk_at dksX1_undo_0 20 rfl rfl)
theorem dX1_undo_21 : decode cX1_undo 21 = .ok (.iconst 0, 1) := dk_3 (dk_at dksX1_undo_0 21 rfl rfl)
theorem dX1_undo_22 : decode cX1_undo 22 = .ok (.putfield 29, 3) := dk_181 0 29 (dk_at dksX1_undo_1 0 rfl rfl)
theorem dX1_undo_25 : decode cX1_undo 25 = .ok (.aload_n 0, 1) := dk_42 (dk_at dksX1_undo_1 3 rfl rfl)
theorem dX1_undo_26 : decode cX1_undo 26 = .ok (.getfield 26, 3) := dk_180 0 26 (dk_at dksX1_undo_1 4 rfl rfl)
theorem dX1_undo_29 : decode cX1_undo 29 = .ok (.ireturn, 1) := dk_172 (dk_at dksX1_undo_1 7 rfl rfl)
abbrev cX1_read : ByteArray := prog_9_method_12_code
def yX1_read : MethodName := ⟨RX1, "read", "()I"⟩
def dkwX1_read_1 : List UInt8 := [172]
abbrev dktX1_read_1 : List UInt8 := dkwX1_read_1 ++ []
def dkwX1_read_0 : List UInt8 := [42, 180, 0, 29, 154, 0, 11, 42, 42, 182, 0, 78, 181, 0, 81, 42, 4, 181, 0, 29, 42, 180, 0, 81]
abbrev dktX1_read_0 : List UInt8 := dkwX1_read_0 ++ dktX1_read_1
theorem dksX1_read_0 : cX1_read.data.toList.drop 0 = dktX1_read_0 := by decide +kernel
theorem dksX1_read_1 : cX1_read.data.toList.drop 24 = dktX1_read_1 := dk_seg dksX1_read_0 24 rfl rfl
theorem dX1_read_0 : decode cX1_read 0 = .ok (.aload_n 0, 1) := dk_42 (dk_at dksX1_read_0 0 rfl rfl)
theorem dX1_read_1 : decode cX1_read 1 = .ok (.getfield 29, 3) := dk_180 0 29 (dk_at dksX1_read_0 1 rfl rfl)
theorem dX1_read_4 : decode cX1_read 4 = .ok (.ifCond .ne 11, 3) := dk_154 0 11 (dk_at dksX1_read_0 4 rfl rfl)
theorem dX1_read_7 : decode cX1_read 7 = .ok (.aload_n 0, 1) := dk_42 (dk_at dksX1_read_0 7 rfl rfl)
theorem dX1_read_8 : decode cX1_read 8 = .ok (.aload_n 0, 1) := dk_42 (dk_at dksX1_read_0 8 rfl rfl)
theorem dX1_read_9 : decode cX1_read 9 = .ok (.invokevirtual 78, 3) := dk_182 0 78 (dk_at dksX1_read_0 9 rfl rfl)
theorem dX1_read_12 : decode cX1_read 12 = .ok (.putfield 81, 3) := dk_181 0 81 (dk_at dksX1_read_0 12 rfl rfl)
theorem dX1_read_15 : decode cX1_read 15 = .ok (.aload_n 0, 1) := dk_42 (dk_at dksX1_read_0 15 rfl rfl)
theorem dX1_read_16 : decode cX1_read 16 = .ok (.iconst 1, 1) := dk_4 (dk_at dksX1_read_0 16 rfl rfl)
theorem dX1_read_17 : decode cX1_read 17 = .ok (.putfield 29, 3) := dk_181 0 29 (dk_at dksX1_read_0 17 rfl rfl)
theorem dX1_read_20 : decode cX1_read 20 = .ok (.aload_n 0, 1) := dk_42 (dk_at dksX1_read_0 20 rfl rfl)
theorem dX1_read_21 : decode cX1_read 21 = .ok (.getfield 81, 3) := dk_180 0 81 (dk_at dksX1_read_0 21 rfl rfl)
theorem dX1_read_24 : decode cX1_read 24 = .ok (.ireturn, 1) := dk_172 (dk_at dksX1_read_1 0 rfl rfl)
abbrev cX1_reads : ByteArray := prog_9_method_11_code
def yX1_reads : MethodName := ⟨RX1, "reads", "()I"⟩
def dkwX1_reads_2 : List UInt8 := [2, 172, 76, 42, 180, 0, 12, 182, 0, 67, 43, 180, 0, 75, 172]
abbrev dktX1_reads_2 : List UInt8 := dkwX1_reads_2 ++ []
def dkwX1_reads_1 : List UInt8 := [180, 0, 33, 42, 180, 0, 26, 162, 0, 17, 42, 18, 73, 182, 0, 49, 87, 42, 182, 0, 70, 167, 255, 234]
abbrev dktX1_reads_1 : List UInt8 := dkwX1_reads_1 ++ dktX1_reads_2
def dkwX1_reads_0 : List UInt8 := [42, 3, 181, 0, 33, 42, 180, 0, 12, 182, 0, 67, 42, 180, 0, 26, 158, 0, 7, 42, 182, 0, 70, 42]
abbrev dktX1_reads_0 : List UInt8 := dkwX1_reads_0 ++ dktX1_reads_1
theorem dksX1_reads_0 : cX1_reads.data.toList.drop 0 = dktX1_reads_0 := by decide +kernel
theorem dksX1_reads_1 : cX1_reads.data.toList.drop 24 = dktX1_reads_1 := dk_seg dksX1_reads_0 24 rfl rfl
theorem dksX1_reads_2 : cX1_reads.data.toList.drop 48 = dktX1_reads_2 := dk_seg dksX1_reads_1 24 rfl rfl
theorem dX1_reads_0 : decode cX1_reads 0 = .ok (.aload_n 0, 1) := dk_42 (dk_at dksX1_reads_0 0 rfl rfl)
theorem dX1_reads_1 : decode cX1_reads 1 = .ok (.iconst 0, 1) := dk_3 (dk_at dksX1_reads_0 1 rfl rfl)
theorem dX1_reads_2 : decode cX1_reads 2 = .ok (.putfield 33, 3) := dk_181 0 33 (dk_at dksX1_reads_0 2 rfl rfl)
theorem dX1_reads_5 : decode cX1_reads 5 = .ok (.aload_n 0, 1) := dk_42 (dk_at dksX1_reads_0 5 rfl rfl)
theorem dX1_reads_6 : decode cX1_reads 6 = .ok (.getfield 12, 3) := dk_180 0 12 (dk_at dksX1_reads_0 6 rfl rfl)
theorem dX1_reads_9 : decode cX1_reads 9 = .ok (.invokevirtual 67, 3) := dk_182 0 67 (dk_at dksX1_reads_0 9 rfl rfl)
theorem dX1_reads_12 : decode cX1_reads 12 = .ok (.aload_n 0, 1) := dk_42 (dk_at dksX1_reads_0 12 rfl rfl)
theorem dX1_reads_13 : decode cX1_reads 13 = .ok (.getfield 26, 3) := dk_180 0 26 (dk_at dksX1_reads_0 13 rfl rfl)
theorem dX1_reads_16 : decode cX1_reads 16 = .ok (.ifCond .le 7, 3) := dk_158 0 7 (dk_at dksX1_reads_0 16 rfl rfl)
theorem dX1_reads_19 : decode cX1_reads 19 = .ok (.aload_n 0, 1) := dk_42 (dk_at dksX1_reads_0 19 rfl rfl)
theorem dX1_reads_20 : decode cX1_reads 20 = .ok (.invokevirtual 70, 3) := dk_182 0 70 (dk_at dksX1_reads_0 20 rfl rfl)
theorem dX1_reads_23 : decode cX1_reads 23 = .ok (.aload_n 0, 1) := dk_42 (dk_at dksX1_reads_0 23 rfl rfl)
theorem dX1_reads_24 : decode cX1_reads 24 = .ok (.getfield 33, 3) := dk_180 0 33 (dk_at dksX1_reads_1 0 rfl rfl)
theorem dX1_reads_27 : decode cX1_reads 27 = .ok (.aload_n 0, 1) := dk_42 (dk_at dksX1_reads_1 3 rfl rfl)
theorem dX1_reads_28 : decode cX1_reads 28 = .ok (.getfield 26, 3) := dk_180 0 26 (dk_at dksX1_reads_1 4 rfl rfl)
theorem dX1_reads_31 : decode cX1_reads 31 = .ok (.if_icmp .ge 17, 3) := dk_162 0 17 (dk_at dksX1_reads_1 7 rfl rfl)
theorem dX1_reads_34 : decode cX1_reads 34 = .ok (.aload_n 0, 1) := dk_42 (dk_at dksX1_reads_1 10 rfl rfl)
theorem dX1_reads_35 : decode cX1_reads 35 = .ok (.ldc 73, 2) := dk_18 73 (dk_at dksX1_reads_1 11 rfl rfl)
theorem dX1_reads_37 : decode cX1_reads 37 = .ok (.invokevirtual 49, 3) := dk_182 0 49 (dk_at dksX1_reads_1 13 rfl rfl)
theorem dX1_reads_40 : decode cX1_reads 40 = .ok (.pop, 1) := dk_87 (dk_at dksX1_reads_1 16 rfl rfl)
theorem dX1_reads_41 : decode cX1_reads 41 = .ok (.aload_n 0, 1) := dk_42 (dk_at dksX1_reads_1 17 rfl rfl)
theorem dX1_reads_42 : decode cX1_reads 42 = .ok (.invokevirtual 70, 3) := dk_182 0 70 (dk_at dksX1_reads_1 18 rfl rfl)
theorem dX1_reads_45 : decode cX1_reads 45 = .ok (.goto (-22), 3) := dk_167 255 234 (dk_at dksX1_reads_1 21 rfl rfl)
theorem dX1_reads_48 : decode cX1_reads 48 = .ok (.iconst (-1), 1) := dk_2 (dk_at dksX1_reads_2 0 rfl rfl)
theorem dX1_reads_49 : decode cX1_reads 49 = .ok (.ireturn, 1) := dk_172 (dk_at dksX1_reads_2 1 rfl rfl)
theorem dX1_reads_50 : decode cX1_reads 50 = .ok (.astore_n 1, 1) := dk_76 (dk_at dksX1_reads_2 2 rfl rfl)
theorem dX1_reads_51 : decode cX1_reads 51 = .ok (.aload_n 0, 1) := dk_42 (dk_at dksX1_reads_2 3 rfl rfl)
theorem dX1_reads_52 : decode cX1_reads 52 = .ok (.getfield 12, 3) := dk_180 0 12 (dk_at dksX1_reads_2 4 rfl rfl)
theorem dX1_reads_55 : decode cX1_reads 55 = .ok (.invokevirtual 67, 3) := dk_182 0 67 (dk_at dksX1_reads_2 7 rfl rfl)
theorem dX1_reads_58 : decode cX1_reads 58 = .ok (.aload_n 1, 1) := dk_43 (dk_at dksX1_reads_2 10 rfl rfl)
theorem dX1_reads_59 : decode cX1_reads 59 = .ok (.getfield 75, 3) := dk_180 0 75 (dk_at dksX1_reads_2 11 rfl rfl)
theorem dX1_reads_62 : decode cX1_reads 62 = .ok (.ireturn, 1) := dk_172 (dk_at dksX1_reads_2 14 rfl rfl)
abbrev cX1_next : ByteArray := prog_9_method_10_code
def yX1_next : MethodName := ⟨RX1, "next", "()V"⟩
def dkwX1_next_1 : List UInt8 := [183, 0, 44, 191, 42, 180, 0, 12, 42, 182, 0, 59, 182, 0, 63, 87, 177]
abbrev dktX1_next_1 : List UInt8 := dkwX1_next_1 ++ []
def dkwX1_next_0 : List UInt8 := [42, 180, 0, 12, 182, 0, 55, 42, 180, 0, 22, 160, 0, 15, 187, 0, 42, 89, 42, 180, 0, 33]
abbrev dktX1_next_0 : List UInt8 := dkwX1_next_0 ++ dktX1_next_1
theorem dksX1_next_0 : cX1_next.data.toList.drop 0 = dktX1_next_0 := by decide +kernel
theorem dksX1_next_1 : cX1_next.data.toList.drop 22 = dktX1_next_1 := dk_seg dksX1_next_0 22 rfl rfl
theorem dX1_next_0 : decode cX1_next 0 = .ok (.aload_n 0, 1) := dk_42 (dk_at dksX1_next_0 0 rfl rfl)
theorem dX1_next_1 : decode cX1_next 1 = .ok (.getfield 12, 3) := dk_180 0 12 (dk_at dksX1_next_0 1 rfl rfl)
theorem dX1_next_4 : decode cX1_next 4 = .ok (.invokevirtual 55, 3) := dk_182 0 55 (dk_at dksX1_next_0 4 rfl rfl)
theorem dX1_next_7 : decode cX1_next 7 = .ok (.aload_n 0, 1) := dk_42 (dk_at dksX1_next_0 7 rfl rfl)
theorem dX1_next_8 : decode cX1_next 8 = .ok (.getfield 22, 3) := dk_180 0 22 (dk_at dksX1_next_0 8 rfl rfl)
theorem dX1_next_11 : decode cX1_next 11 = .ok (.if_icmp .ne 15, 3) := dk_160 0 15 (dk_at dksX1_next_0 11 rfl rfl)
theorem dX1_next_14 : decode cX1_next 14 = .ok (.new 42, 3) := dk_187 0 42 (dk_at dksX1_next_0 14 rfl rfl)
theorem dX1_next_17 : decode cX1_next 17 = .ok (.dup, 1) := dk_89 (dk_at dksX1_next_0 17 rfl rfl)
theorem dX1_next_18 : decode cX1_next 18 = .ok (.aload_n 0, 1) := dk_42 (dk_at dksX1_next_0 18 rfl rfl)
theorem dX1_next_19 : decode cX1_next 19 = .ok (.getfield 33, 3) := dk_180 0 33 (dk_at dksX1_next_0 19 rfl rfl)
theorem dX1_next_22 : decode cX1_next 22 = .ok (.invokespecial 44, 3) := dk_183 0 44 (dk_at dksX1_next_1 0 rfl rfl)
theorem dX1_next_25 : decode cX1_next 25 = .ok (.athrow, 1) := dk_191 (dk_at dksX1_next_1 3 rfl rfl)
theorem dX1_next_26 : decode cX1_next 26 = .ok (.aload_n 0, 1) := dk_42 (dk_at dksX1_next_1 4 rfl rfl)
theorem dX1_next_27 : decode cX1_next 27 = .ok (.getfield 12, 3) := dk_180 0 12 (dk_at dksX1_next_1 5 rfl rfl)
theorem dX1_next_30 : decode cX1_next 30 = .ok (.aload_n 0, 1) := dk_42 (dk_at dksX1_next_1 8 rfl rfl)
theorem dX1_next_31 : decode cX1_next 31 = .ok (.invokevirtual 59, 3) := dk_182 0 59 (dk_at dksX1_next_1 9 rfl rfl)
theorem dX1_next_34 : decode cX1_next 34 = .ok (.invokevirtual 63, 3) := dk_182 0 63 (dk_at dksX1_next_1 12 rfl rfl)
theorem dX1_next_37 : decode cX1_next 37 = .ok (.pop, 1) := dk_87 (dk_at dksX1_next_1 15 rfl rfl)
theorem dX1_next_38 : decode cX1_next 38 = .ok (.return_, 1) := dk_177 (dk_at dksX1_next_1 16 rfl rfl)
abbrev cX1_figure : ByteArray := prog_9_method_8_code
def yX1_figure : MethodName := ⟨RX1, "figure", "()I"⟩
def dkwX1_figure_0 : List UInt8 := [42, 18, 47, 182, 0, 49, 172]
abbrev dktX1_figure_0 : List UInt8 := dkwX1_figure_0 ++ []
theorem dksX1_figure_0 : cX1_figure.data.toList.drop 0 = dktX1_figure_0 := by decide +kernel
theorem dX1_figure_0 : decode cX1_figure 0 = .ok (.aload_n 0, 1) := dk_42 (dk_at dksX1_figure_0 0 rfl rfl)
theorem dX1_figure_1 : decode cX1_figure 1 = .ok (.ldc 47, 2) := dk_18 47 (dk_at dksX1_figure_0 1 rfl rfl)
theorem dX1_figure_3 : decode cX1_figure 3 = .ok (.invokevirtual 49, 3) := dk_182 0 49 (dk_at dksX1_figure_0 3 rfl rfl)
theorem dX1_figure_6 : decode cX1_figure 6 = .ok (.ireturn, 1) := dk_172 (dk_at dksX1_figure_0 6 rfl rfl)
abbrev cX1_passes : ByteArray := prog_9_method_7_code
def yX1_passes : MethodName := ⟨RX1, "passes", "(Ljava/lang/String;)I"⟩
def dkwX1_passes_2 : List UInt8 := [183, 0, 44, 191, 42, 89, 180, 0, 33, 4, 96, 181, 0, 33, 28, 172]
abbrev dktX1_passes_2 : List UInt8 := dkwX1_passes_2 ++ []
def dkwX1_passes_1 : List UInt8 := [51, 17, 0, 255, 126, 182, 0, 36, 61, 28, 2, 160, 0, 15, 187, 0, 42, 89, 42, 180, 0, 33]
abbrev dktX1_passes_1 : List UInt8 := dkwX1_passes_1 ++ dktX1_passes_2
def dkwX1_passes_0 : List UInt8 := [42, 180, 0, 33, 42, 180, 0, 26, 160, 0, 7, 2, 167, 0, 20, 43, 42, 180, 0, 18, 42, 180, 0, 33]
abbrev dktX1_passes_0 : List UInt8 := dkwX1_passes_0 ++ dktX1_passes_1
theorem dksX1_passes_0 : cX1_passes.data.toList.drop 0 = dktX1_passes_0 := by decide +kernel
theorem dksX1_passes_1 : cX1_passes.data.toList.drop 24 = dktX1_passes_1 := dk_seg dksX1_passes_0 24 rfl rfl
theorem dksX1_passes_2 : cX1_passes.data.toList.drop 46 = dktX1_passes_2 := dk_seg dksX1_passes_1 22 rfl rfl
theorem dX1_passes_0 : decode cX1_passes 0 = .ok (.aload_n 0, 1) := dk_42 (dk_at dksX1_passes_0 0 rfl rfl)
theorem dX1_passes_1 : decode cX1_passes 1 = .ok (.getfield 33, 3) := dk_180 0 33 (dk_at dksX1_passes_0 1 rfl rfl)
theorem dX1_passes_4 : decode cX1_passes 4 = .ok (.aload_n 0, 1) := dk_42 (dk_at dksX1_passes_0 4 rfl rfl)
theorem dX1_passes_5 : decode cX1_passes 5 = .ok (.getfield 26, 3) := dk_180 0 26 (dk_at dksX1_passes_0 5 rfl rfl)
theorem dX1_passes_8 : decode cX1_passes 8 = .ok (.if_icmp .ne 7, 3) := dk_160 0 7 (dk_at dksX1_passes_0 8 rfl rfl)
theorem dX1_passes_11 : decode cX1_passes 11 = .ok (.iconst (-1), 1) := dk_2 (dk_at dksX1_passes_0 11 rfl rfl)
theorem dX1_passes_12 : decode cX1_passes 12 = .ok (.goto 20, 3) := dk_167 0 20 (dk_at dksX1_passes_0 12 rfl rfl)
theorem dX1_passes_15 : decode cX1_passes 15 = .ok (.aload_n 1, 1) := dk_43 (dk_at dksX1_passes_0 15 rfl rfl)
theorem dX1_passes_16 : decode cX1_passes 16 = .ok (.aload_n 0, 1) := dk_42 (dk_at dksX1_passes_0 16 rfl rfl)
theorem dX1_passes_17 : decode cX1_passes 17 = .ok (.getfield 18, 3) := dk_180 0 18 (dk_at dksX1_passes_0 17 rfl rfl)
theorem dX1_passes_20 : decode cX1_passes 20 = .ok (.aload_n 0, 1) := dk_42 (dk_at dksX1_passes_0 20 rfl rfl)
theorem dX1_passes_21 : decode cX1_passes 21 = .ok (.getfield 33, 3) := dk_180 0 33 (dk_at dksX1_passes_0 21 rfl rfl)
theorem dX1_passes_24 : decode cX1_passes 24 = .ok (.baload, 1) := dk_51 (dk_at dksX1_passes_1 0 rfl rfl)
theorem dX1_passes_25 : decode cX1_passes 25 = .ok (.sipush 255, 3) := dk_17 0 255 (dk_at dksX1_passes_1 1 rfl rfl)
theorem dX1_passes_28 : decode cX1_passes 28 = .ok (.iand, 1) := dk_126 (dk_at dksX1_passes_1 4 rfl rfl)
theorem dX1_passes_29 : decode cX1_passes 29 = .ok (.invokevirtual 36, 3) := dk_182 0 36 (dk_at dksX1_passes_1 5 rfl rfl)
theorem dX1_passes_32 : decode cX1_passes 32 = .ok (.istore_n 2, 1) := dk_61 (dk_at dksX1_passes_1 8 rfl rfl)
theorem dX1_passes_33 : decode cX1_passes 33 = .ok (.iload_n 2, 1) := dk_28 (dk_at dksX1_passes_1 9 rfl rfl)
theorem dX1_passes_34 : decode cX1_passes 34 = .ok (.iconst (-1), 1) := dk_2 (dk_at dksX1_passes_1 10 rfl rfl)
theorem dX1_passes_35 : decode cX1_passes 35 = .ok (.if_icmp .ne 15, 3) := dk_160 0 15 (dk_at dksX1_passes_1 11 rfl rfl)
theorem dX1_passes_38 : decode cX1_passes 38 = .ok (.new 42, 3) := dk_187 0 42 (dk_at dksX1_passes_1 14 rfl rfl)
theorem dX1_passes_41 : decode cX1_passes 41 = .ok (.dup, 1) := dk_89 (dk_at dksX1_passes_1 17 rfl rfl)
theorem dX1_passes_42 : decode cX1_passes 42 = .ok (.aload_n 0, 1) := dk_42 (dk_at dksX1_passes_1 18 rfl rfl)
theorem dX1_passes_43 : decode cX1_passes 43 = .ok (.getfield 33, 3) := dk_180 0 33 (dk_at dksX1_passes_1 19 rfl rfl)
theorem dX1_passes_46 : decode cX1_passes 46 = .ok (.invokespecial 44, 3) := dk_183 0 44 (dk_at dksX1_passes_2 0 rfl rfl)
theorem dX1_passes_49 : decode cX1_passes 49 = .ok (.athrow, 1) := dk_191 (dk_at dksX1_passes_2 3 rfl rfl)
theorem dX1_passes_50 : decode cX1_passes 50 = .ok (.aload_n 0, 1) := dk_42 (dk_at dksX1_passes_2 4 rfl rfl)
theorem dX1_passes_51 : decode cX1_passes 51 = .ok (.dup, 1) := dk_89 (dk_at dksX1_passes_2 5 rfl rfl)
theorem dX1_passes_52 : decode cX1_passes 52 = .ok (.getfield 33, 3) := dk_180 0 33 (dk_at dksX1_passes_2 6 rfl rfl)
theorem dX1_passes_55 : decode cX1_passes 55 = .ok (.iconst 1, 1) := dk_4 (dk_at dksX1_passes_2 9 rfl rfl)
theorem dX1_passes_56 : decode cX1_passes 56 = .ok (.iadd, 1) := dk_96 (dk_at dksX1_passes_2 10 rfl rfl)
theorem dX1_passes_57 : decode cX1_passes 57 = .ok (.putfield 33, 3) := dk_181 0 33 (dk_at dksX1_passes_2 11 rfl rfl)
theorem dX1_passes_60 : decode cX1_passes 60 = .ok (.iload_n 2, 1) := dk_28 (dk_at dksX1_passes_2 14 rfl rfl)
theorem dX1_passes_61 : decode cX1_passes 61 = .ok (.ireturn, 1) := dk_172 (dk_at dksX1_passes_2 15 rfl rfl)
abbrev cX1_topic : ByteArray := prog_9_method_9_code
def yX1_topic : MethodName := ⟨RX1, "topic", "()I"⟩
def dkwX1_topic_0 : List UInt8 := [42, 18, 53, 182, 0, 49, 172]
abbrev dktX1_topic_0 : List UInt8 := dkwX1_topic_0 ++ []
theorem dksX1_topic_0 : cX1_topic.data.toList.drop 0 = dktX1_topic_0 := by decide +kernel
theorem dX1_topic_0 : decode cX1_topic 0 = .ok (.aload_n 0, 1) := dk_42 (dk_at dksX1_topic_0 0 rfl rfl)
theorem dX1_topic_1 : decode cX1_topic 1 = .ok (.ldc 53, 2) := dk_18 53 (dk_at dksX1_topic_0 1 rfl rfl)
theorem dX1_topic_3 : decode cX1_topic 3 = .ok (.invokevirtual 49, 3) := dk_182 0 49 (dk_at dksX1_topic_0 3 rfl rfl)
theorem dX1_topic_6 : decode cX1_topic 6 = .ok (.ireturn, 1) := dk_172 (dk_at dksX1_topic_0 6 rfl rfl)
abbrev cX1_many : ByteArray := prog_9_method_13_code
def yX1_many : MethodName := ⟨RX1, "many", "()I"⟩
def dkwX1_many_0 : List UInt8 := [42, 182, 0, 84, 87, 42, 180, 0, 12, 182, 0, 55, 172]
abbrev dktX1_many_0 : List UInt8 := dkwX1_many_0 ++ []
theorem dksX1_many_0 : cX1_many.data.toList.drop 0 = dktX1_many_0 := by decide +kernel
theorem dX1_many_0 : decode cX1_many 0 = .ok (.aload_n 0, 1) := dk_42 (dk_at dksX1_many_0 0 rfl rfl)
theorem dX1_many_1 : decode cX1_many 1 = .ok (.invokevirtual 84, 3) := dk_182 0 84 (dk_at dksX1_many_0 1 rfl rfl)
theorem dX1_many_4 : decode cX1_many 4 = .ok (.pop, 1) := dk_87 (dk_at dksX1_many_0 4 rfl rfl)
theorem dX1_many_5 : decode cX1_many 5 = .ok (.aload_n 0, 1) := dk_42 (dk_at dksX1_many_0 5 rfl rfl)
theorem dX1_many_6 : decode cX1_many 6 = .ok (.getfield 12, 3) := dk_180 0 12 (dk_at dksX1_many_0 6 rfl rfl)
theorem dX1_many_9 : decode cX1_many 9 = .ok (.invokevirtual 55, 3) := dk_182 0 55 (dk_at dksX1_many_0 9 rfl rfl)
theorem dX1_many_12 : decode cX1_many 12 = .ok (.ireturn, 1) := dk_172 (dk_at dksX1_many_0 12 rfl rfl)
abbrev cX1_length : ByteArray := prog_9_method_6_code
def yX1_length : MethodName := ⟨RX1, "length", "()I"⟩
theorem dX1_length_0 : decode cX1_length 0 = .ok (.aload_n 0, 1) := by decide +kernel
theorem dX1_length_1 : decode cX1_length 1 = .ok (.getfield 26, 3) := by decide +kernel
theorem dX1_length_4 : decode cX1_length 4 = .ok (.ireturn, 1) := by decide +kernel
theorem q81 : (Jvm.Cond.initialized "InterestTaken$Text") ∈ lw_all := lw_g (lw_at lw_m1 2 rfl) rfl
theorem q123 : (Jvm.Cond.instanceMethod ({ cls := "InterestTaken$Text", name := "<init>", desc := "(II)V" } : Jvm.MethodName)) ∈ lw_all := lw_g (lw_at lw_m1 44 rfl) rfl
theorem q124 : (Jvm.Cond.code ({ cls := "InterestTaken$Text", name := "<init>", desc := "(II)V" } : Jvm.MethodName) prog_9_method_1_code (3 : Nat) (Option.none : Option Jvm.ClassFile.FieldType)) ∈ lw_all := lw_g (lw_at lw_m1 45 rfl) rfl
theorem q125 : (Jvm.Cond.methodLink "InterestTaken$Text" (3 : Nat) ({ cls := "java/lang/Object", name := "<init>", desc := "()V" } : Jvm.MethodName)) ∈ lw_all := lw_g (lw_at lw_m1 46 rfl) rfl
theorem q126 : (Jvm.Cond.classLink "InterestTaken$Text" (9 : Nat) "java/util/ArrayList") ∈ lw_all := lw_g (lw_at lw_m1 47 rfl) rfl
theorem q128 : (Jvm.Cond.methodLink "InterestTaken$Text" (11 : Nat) ({ cls := "java/util/ArrayList", name := "<init>", desc := "()V" } : Jvm.MethodName)) ∈ lw_all := lw_g (lw_at lw_m1 49 rfl) rfl
theorem q152 : (Jvm.Cond.fieldLink "InterestTaken$Text" (18 : Nat) "InterestTaken$Text" "bytes" "[B") ∈ lw_all := lw_g (lw_at lw_m1 73 rfl) rfl
theorem q153 : (Jvm.Cond.fieldLink "InterestTaken$Text" (22 : Nat) "InterestTaken$Text" "most" "I") ∈ lw_all := lw_g (lw_at lw_m1 74 rfl) rfl
theorem q154 : (Jvm.Cond.fieldLink "InterestTaken$Text" (26 : Nat) "InterestTaken$Text" "typed" "I") ∈ lw_all := lw_g (lw_at lw_m1 75 rfl) rfl
theorem q155 : (Jvm.Cond.fieldLink "InterestTaken$Text" (33 : Nat) "InterestTaken$Text" "at" "I") ∈ lw_all := lw_g (lw_at lw_m1 76 rfl) rfl
theorem q156 : (Jvm.Cond.fieldLink "InterestTaken$Text" (29 : Nat) "InterestTaken$Text" "fresh" "Z") ∈ lw_all := lw_g (lw_at lw_m1 77 rfl) rfl
theorem q157 : (Jvm.Cond.fieldLink "InterestTaken$Text" (81 : Nat) "InterestTaken$Text" "fault" "I") ∈ lw_all := lw_g (lw_at lw_m1 78 rfl) rfl
theorem q158 : (Jvm.Cond.fieldLink "InterestTaken$Text" (12 : Nat) "InterestTaken$Text" "all" "Ljava/util/ArrayList;") ∈ lw_all := lw_g (lw_at lw_m1 79 rfl) rfl
theorem q164 : (Jvm.Cond.soleField "InterestTaken$Text" "bytes") ∈ lw_all := lw_g (lw_at lw_m1 85 rfl) rfl
theorem q166 : (Jvm.Cond.soleField "InterestTaken$Text" "most") ∈ lw_all := lw_g (lw_at lw_m1 87 rfl) rfl
theorem q168 : (Jvm.Cond.soleField "InterestTaken$Text" "typed") ∈ lw_all := lw_g (lw_at lw_m1 89 rfl) rfl
theorem q170 : (Jvm.Cond.soleField "InterestTaken$Text" "at") ∈ lw_all := lw_g (lw_at lw_m1 91 rfl) rfl
theorem q172 : (Jvm.Cond.soleField "InterestTaken$Text" "fresh") ∈ lw_all := lw_g (lw_at lw_m1 93 rfl) rfl
theorem q174 : (Jvm.Cond.soleField "InterestTaken$Text" "fault") ∈ lw_all := lw_g (lw_at lw_m1 95 rfl) rfl
theorem q176 : (Jvm.Cond.soleField "InterestTaken$Text" "all") ∈ lw_all := lw_g (lw_at lw_m1 97 rfl) rfl
theorem q318 : (Jvm.Cond.instanceMethod ({ cls := "InterestTaken$Text", name := "type", desc := "(I)I" } : Jvm.MethodName)) ∈ lw_all := lw_g (lw_at lw_m1 239 rfl) rfl
theorem q319 : (Jvm.Cond.sameMethod "InterestTaken$Text" "InterestTaken$Text" "type" "(I)I") ∈ lw_all := lw_g (lw_at lw_m2 0 rfl) rfl
theorem q322 : (Jvm.Cond.code ({ cls := "InterestTaken$Text", name := "type", desc := "(I)I" } : Jvm.MethodName) prog_9_method_3_code (2 : Nat) (Option.some Jvm.ClassFile.FieldType.int)) ∈ lw_all := lw_g (lw_at lw_m2 3 rfl) rfl
theorem q328 : (Jvm.Cond.instanceMethod ({ cls := "InterestTaken$Text", name := "wipe", desc := "()I" } : Jvm.MethodName)) ∈ lw_all := lw_g (lw_at lw_m2 9 rfl) rfl
theorem q329 : (Jvm.Cond.sameMethod "InterestTaken$Text" "InterestTaken$Text" "wipe" "()I") ∈ lw_all := lw_g (lw_at lw_m2 10 rfl) rfl
theorem q332 : (Jvm.Cond.code ({ cls := "InterestTaken$Text", name := "wipe", desc := "()I" } : Jvm.MethodName) prog_9_method_4_code (2 : Nat) (Option.some Jvm.ClassFile.FieldType.int)) ∈ lw_all := lw_g (lw_at lw_m2 13 rfl) rfl
theorem q338 : (Jvm.Cond.instanceMethod ({ cls := "InterestTaken$Text", name := "undo", desc := "()I" } : Jvm.MethodName)) ∈ lw_all := lw_g (lw_at lw_m2 19 rfl) rfl
theorem q339 : (Jvm.Cond.sameMethod "InterestTaken$Text" "InterestTaken$Text" "undo" "()I") ∈ lw_all := lw_g (lw_at lw_m2 20 rfl) rfl
theorem q342 : (Jvm.Cond.code ({ cls := "InterestTaken$Text", name := "undo", desc := "()I" } : Jvm.MethodName) prog_9_method_5_code (1 : Nat) (Option.some Jvm.ClassFile.FieldType.int)) ∈ lw_all := lw_g (lw_at lw_m2 23 rfl) rfl
theorem q348 : (Jvm.Cond.instanceMethod ({ cls := "InterestTaken$Text", name := "read", desc := "()I" } : Jvm.MethodName)) ∈ lw_all := lw_g (lw_at lw_m2 29 rfl) rfl
theorem q349 : (Jvm.Cond.sameMethod "InterestTaken$Text" "InterestTaken$Text" "read" "()I") ∈ lw_all := lw_g (lw_at lw_m2 30 rfl) rfl
theorem q352 : (Jvm.Cond.code ({ cls := "InterestTaken$Text", name := "read", desc := "()I" } : Jvm.MethodName) prog_9_method_12_code (1 : Nat) (Option.some Jvm.ClassFile.FieldType.int)) ∈ lw_all := lw_g (lw_at lw_m2 33 rfl) rfl
theorem q353 : (Jvm.Cond.methodLink "InterestTaken$Text" (78 : Nat) ({ cls := "InterestTaken$Text", name := "reads", desc := "()I" } : Jvm.MethodName)) ∈ lw_all := lw_g (lw_at lw_m2 34 rfl) rfl
theorem q354 : (Jvm.Cond.privateMethod ({ cls := "InterestTaken$Text", name := "reads", desc := "()I" } : Jvm.MethodName)) ∈ lw_tbl := lw_at lw_m2 35 rfl
theorem q355 : (Jvm.Cond.instanceMethod ({ cls := "InterestTaken$Text", name := "reads", desc := "()I" } : Jvm.MethodName)) ∈ lw_all := lw_g (lw_at lw_m2 36 rfl) rfl
theorem q356 : (Jvm.Cond.codeWith ({ cls := "InterestTaken$Text", name := "reads", desc := "()I" } : Jvm.MethodName) prog_9_method_11_code (2 : Nat) (Option.some Jvm.ClassFile.FieldType.int) [((12 : Nat), (49 : Nat), (50 : Nat), (42 : Nat))]) ∈ lw_all := lw_g (lw_at lw_m2 37 rfl) rfl
theorem q357 : (Jvm.Cond.classLink "InterestTaken$Text" (42 : Nat) "InterestTaken$Torn") ∈ lw_all := lw_g (lw_at lw_m2 38 rfl) rfl
theorem q358 : (Jvm.Cond.methodLink "InterestTaken$Text" (67 : Nat) ({ cls := "java/util/ArrayList", name := "clear", desc := "()V" } : Jvm.MethodName)) ∈ lw_all := lw_g (lw_at lw_m2 39 rfl) rfl
theorem q362 : (Jvm.Cond.methodLink "InterestTaken$Text" (70 : Nat) ({ cls := "InterestTaken$Text", name := "next", desc := "()V" } : Jvm.MethodName)) ∈ lw_all := lw_g (lw_at lw_m2 43 rfl) rfl
theorem q363 : (Jvm.Cond.privateMethod ({ cls := "InterestTaken$Text", name := "next", desc := "()V" } : Jvm.MethodName)) ∈ lw_tbl := lw_at lw_m2 44 rfl
theorem q364 : (Jvm.Cond.instanceMethod ({ cls := "InterestTaken$Text", name := "next", desc := "()V" } : Jvm.MethodName)) ∈ lw_all := lw_g (lw_at lw_m2 45 rfl) rfl
theorem q365 : (Jvm.Cond.code ({ cls := "InterestTaken$Text", name := "next", desc := "()V" } : Jvm.MethodName) prog_9_method_10_code (1 : Nat) (Option.none : Option Jvm.ClassFile.FieldType)) ∈ lw_all := lw_g (lw_at lw_m2 46 rfl) rfl
theorem q366 : (Jvm.Cond.methodLink "InterestTaken$Text" (55 : Nat) ({ cls := "java/util/ArrayList", name := "size", desc := "()I" } : Jvm.MethodName)) ∈ lw_all := lw_g (lw_at lw_m2 47 rfl) rfl
theorem q409 : (Jvm.Cond.methodLink "InterestTaken$Text" (44 : Nat) ({ cls := "InterestTaken$Torn", name := "<init>", desc := "(I)V" } : Jvm.MethodName)) ∈ lw_all := lw_g (lw_at lw_m2 90 rfl) rfl
theorem q419 : (Jvm.Cond.fieldLinkNest "InterestTaken$Text" (75 : Nat) "InterestTaken$Torn" "place" "I" "InterestTaken") ∈ lw_tbl := lw_at lw_m2 100 rfl
theorem q435 : (Jvm.Cond.methodLink "InterestTaken$Text" (59 : Nat) ({ cls := "InterestTaken$Text", name := "part", desc := "()Ljava/lang/Object;" } : Jvm.MethodName)) ∈ lw_all := lw_g (lw_at lw_m2 116 rfl) rfl
theorem q436 : (Jvm.Cond.declares ({ cls := "InterestTaken$Text", name := "part", desc := "()Ljava/lang/Object;" } : Jvm.MethodName)) ∈ lw_tbl := lw_at lw_m2 117 rfl
theorem q437 : (Jvm.Cond.sameMethod "InterestTaken$Text" "InterestTaken$Text" "part" "()Ljava/lang/Object;") ∈ lw_all := lw_g (lw_at lw_m2 118 rfl) rfl
theorem q447 : (Jvm.Cond.declares ({ cls := "InterestTaken$Text", name := "figure", desc := "()I" } : Jvm.MethodName)) ∈ lw_tbl := lw_at lw_m2 128 rfl
theorem q449 : (Jvm.Cond.instanceMethod ({ cls := "InterestTaken$Text", name := "figure", desc := "()I" } : Jvm.MethodName)) ∈ lw_all := lw_g (lw_at lw_m2 130 rfl) rfl
theorem q450 : (Jvm.Cond.code ({ cls := "InterestTaken$Text", name := "figure", desc := "()I" } : Jvm.MethodName) prog_9_method_8_code (1 : Nat) (Option.some Jvm.ClassFile.FieldType.int)) ∈ lw_all := lw_g (lw_at lw_m2 131 rfl) rfl
theorem q451 : (Jvm.Cond.stringRef "InterestTaken$Text" (47 : Nat) "0123456789") ∈ lw_tbl := lw_at lw_m2 132 rfl
theorem q452 : (Jvm.Cond.methodLink "InterestTaken$Text" (49 : Nat) ({ cls := "InterestTaken$Text", name := "passes", desc := "(Ljava/lang/String;)I" } : Jvm.MethodName)) ∈ lw_all := lw_g (lw_at lw_m2 133 rfl) rfl
theorem q453 : (Jvm.Cond.instanceMethod ({ cls := "InterestTaken$Text", name := "passes", desc := "(Ljava/lang/String;)I" } : Jvm.MethodName)) ∈ lw_all := lw_g (lw_at lw_m2 134 rfl) rfl
theorem q454 : (Jvm.Cond.sameMethod "InterestTaken$Text" "InterestTaken$Text" "passes" "(Ljava/lang/String;)I") ∈ lw_all := lw_g (lw_at lw_m2 135 rfl) rfl
theorem q457 : (Jvm.Cond.code ({ cls := "InterestTaken$Text", name := "passes", desc := "(Ljava/lang/String;)I" } : Jvm.MethodName) prog_9_method_7_code (3 : Nat) (Option.some Jvm.ClassFile.FieldType.int)) ∈ lw_all := lw_g (lw_at lw_m2 138 rfl) rfl
theorem q458 : (Jvm.Cond.methodLink "InterestTaken$Text" (36 : Nat) ({ cls := "java/lang/String", name := "indexOf", desc := "(I)I" } : Jvm.MethodName)) ∈ lw_all := lw_g (lw_at lw_m2 139 rfl) rfl
theorem q547 : (Jvm.Cond.declares ({ cls := "InterestTaken$Text", name := "topic", desc := "()I" } : Jvm.MethodName)) ∈ lw_tbl := lw_at lw_m2 228 rfl
theorem q549 : (Jvm.Cond.instanceMethod ({ cls := "InterestTaken$Text", name := "topic", desc := "()I" } : Jvm.MethodName)) ∈ lw_all := lw_g (lw_at lw_m2 230 rfl) rfl
theorem q550 : (Jvm.Cond.code ({ cls := "InterestTaken$Text", name := "topic", desc := "()I" } : Jvm.MethodName) prog_9_method_9_code (1 : Nat) (Option.some Jvm.ClassFile.FieldType.int)) ∈ lw_all := lw_g (lw_at lw_m2 231 rfl) rfl
theorem q551 : (Jvm.Cond.stringRef "InterestTaken$Text" (53 : Nat) "abcd") ∈ lw_tbl := lw_at lw_m2 232 rfl
theorem q568 : (Jvm.Cond.declares ({ cls := "InterestTaken$Text", name := "passes", desc := "(Ljava/lang/String;)I" } : Jvm.MethodName)) ∈ lw_tbl := lw_at lw_m3 9 rfl
theorem q592 : (Jvm.Cond.methodLink "InterestTaken$Text" (63 : Nat) ({ cls := "java/util/ArrayList", name := "add", desc := "(Ljava/lang/Object;)Z" } : Jvm.MethodName)) ∈ lw_all := lw_g (lw_at lw_m3 33 rfl) rfl
theorem q651 : (Jvm.Cond.stringRef "InterestTaken$Text" (73 : Nat) ";") ∈ lw_tbl := lw_at lw_m3 92 rfl
theorem q662 : (Jvm.Cond.declares ({ cls := "InterestTaken$Text", name := "many", desc := "()I" } : Jvm.MethodName)) ∈ lw_tbl := lw_at lw_m3 103 rfl
theorem q664 : (Jvm.Cond.instanceMethod ({ cls := "InterestTaken$Text", name := "many", desc := "()I" } : Jvm.MethodName)) ∈ lw_all := lw_g (lw_at lw_m3 105 rfl) rfl
theorem q665 : (Jvm.Cond.code ({ cls := "InterestTaken$Text", name := "many", desc := "()I" } : Jvm.MethodName) prog_9_method_13_code (1 : Nat) (Option.some Jvm.ClassFile.FieldType.int)) ∈ lw_all := lw_g (lw_at lw_m3 106 rfl) rfl
theorem q666 : (Jvm.Cond.methodLink "InterestTaken$Text" (84 : Nat) ({ cls := "InterestTaken$Text", name := "read", desc := "()I" } : Jvm.MethodName)) ∈ lw_all := lw_g (lw_at lw_m3 107 rfl) rfl
theorem q1115 : (Jvm.Cond.instanceMethod ({ cls := "InterestTaken$Text", name := "length", desc := "()I" } : Jvm.MethodName)) ∈ lw_all := lw_g (lw_at lw_m5 76 rfl) rfl
theorem q1116 : (Jvm.Cond.sameMethod "InterestTaken$Text" "InterestTaken$Text" "length" "()I") ∈ lw_all := lw_g (lw_at lw_m5 77 rfl) rfl
theorem q1119 : (Jvm.Cond.code ({ cls := "InterestTaken$Text", name := "length", desc := "()I" } : Jvm.MethodName) prog_9_method_6_code (1 : Nat) (Option.some Jvm.ClassFile.FieldType.int)) ∈ lw_all := lw_g (lw_at lw_m5 80 rfl) rfl
theorem q1610 : (Jvm.Cond.sameMethod "InterestTaken$Text" "InterestTaken$Text" "reads" "()I") ∈ lw_all := lw_g (lw_at lw_m7 91 rfl) rfl
theorem q1611 : (Jvm.Cond.sameMethod "InterestTaken$Text" "InterestTaken$Text" "next" "()V") ∈ lw_all := lw_g (lw_at lw_m7 92 rfl) rfl
theorem q1613 : (Jvm.Cond.sameMethod "InterestTaken$Text" "InterestTaken$Text" "many" "()I") ∈ lw_all := lw_g (lw_at lw_m7 94 rfl) rfl

/-! InterestTaken$Keeps -/
set_option maxRecDepth 100000
def RX10 : String := "InterestTaken$Keeps"
abbrev cX10_number : ByteArray := prog_4_method_2_code
def yX10_number : MethodName := ⟨RX10, "number", "()I"⟩
def dkwX10_number_0 : List UInt8 := [42, 183, 0, 9, 4, 96, 172]
abbrev dktX10_number_0 : List UInt8 := dkwX10_number_0 ++ []
theorem dksX10_number_0 : cX10_number.data.toList.drop 0 = dktX10_number_0 := by decide +kernel
theorem dX10_number_0 : decode cX10_number 0 = .ok (.aload_n 0, 1) := dk_42 (dk_at dksX10_number_0 0 rfl rfl)
theorem dX10_number_1 : decode cX10_number 1 = .ok (.invokespecial 9, 3) := dk_183 0 9 (dk_at dksX10_number_0 1 rfl rfl)
theorem dX10_number_4 : decode cX10_number 4 = .ok (.iconst 1, 1) := dk_4 (dk_at dksX10_number_0 4 rfl rfl)
theorem dX10_number_5 : decode cX10_number 5 = .ok (.iadd, 1) := dk_96 (dk_at dksX10_number_0 5 rfl rfl)
theorem dX10_number_6 : decode cX10_number 6 = .ok (.ireturn, 1) := dk_172 (dk_at dksX10_number_0 6 rfl rfl)
abbrev cX10_mounts : ByteArray := prog_4_method_3_code
def yX10_mounts : MethodName := ⟨RX10, "mounts", "(I)I"⟩
def dkwX10_mounts_0 : List UInt8 := [42, 27, 183, 0, 13, 27, 16, 10, 108, 96, 172]
abbrev dktX10_mounts_0 : List UInt8 := dkwX10_mounts_0 ++ []
theorem dksX10_mounts_0 : cX10_mounts.data.toList.drop 0 = dktX10_mounts_0 := by decide +kernel
theorem dX10_mounts_0 : decode cX10_mounts 0 = .ok (.aload_n 0, 1) := dk_42 (dk_at dksX10_mounts_0 0 rfl rfl)
theorem dX10_mounts_1 : decode cX10_mounts 1 = .ok (.iload_n 1, 1) := dk_27 (dk_at dksX10_mounts_0 1 rfl rfl)
theorem dX10_mounts_2 : decode cX10_mounts 2 = .ok (.invokespecial 13, 3) := dk_183 0 13 (dk_at dksX10_mounts_0 2 rfl rfl)
theorem dX10_mounts_5 : decode cX10_mounts 5 = .ok (.iload_n 1, 1) := dk_27 (dk_at dksX10_mounts_0 5 rfl rfl)
theorem dX10_mounts_6 : decode cX10_mounts 6 = .ok (.bipush 10, 2) := dk_16 10 (dk_at dksX10_mounts_0 6 rfl rfl)
theorem dX10_mounts_8 : decode cX10_mounts 8 = .ok (.idiv, 1) := dk_108 (dk_at dksX10_mounts_0 8 rfl rfl)
theorem dX10_mounts_9 : decode cX10_mounts 9 = .ok (.iadd, 1) := dk_96 (dk_at dksX10_mounts_0 9 rfl rfl)
theorem dX10_mounts_10 : decode cX10_mounts 10 = .ok (.ireturn, 1) := dk_172 (dk_at dksX10_mounts_0 10 rfl rfl)
abbrev cX10_comes : ByteArray := prog_4_method_4_code
def yX10_comes : MethodName := ⟨RX10, "comes", "(Z)Z"⟩
theorem dX10_comes_0 : decode cX10_comes 0 = .ok (.iload_n 1, 1) := by decide +kernel
theorem dX10_comes_1 : decode cX10_comes 1 = .ok (.ireturn, 1) := by decide +kernel
theorem q625 : (Jvm.Cond.selects "InterestTaken$Keeps" ({ cls := "java/lang/Object", name := "getClass", desc := "()Ljava/lang/Class;" } : Jvm.MethodName) ({ cls := "java/lang/Object", name := "getClass", desc := "()Ljava/lang/Class;" } : Jvm.MethodName)) ∈ lw_all := lw_g (lw_at lw_m3 66 rfl) rfl
theorem q691 : (Jvm.Cond.selects "InterestTaken$Keeps" ({ cls := "InterestTaken$Way", name := "number", desc := "()I" } : Jvm.MethodName) ({ cls := "InterestTaken$Keeps", name := "number", desc := "()I" } : Jvm.MethodName)) ∈ lw_all := lw_g (lw_at lw_m3 132 rfl) rfl
theorem q692 : (Jvm.Cond.instanceMethod ({ cls := "InterestTaken$Keeps", name := "number", desc := "()I" } : Jvm.MethodName)) ∈ lw_all := lw_g (lw_at lw_m3 133 rfl) rfl
theorem q693 : (Jvm.Cond.code ({ cls := "InterestTaken$Keeps", name := "number", desc := "()I" } : Jvm.MethodName) prog_4_method_2_code (1 : Nat) (Option.some Jvm.ClassFile.FieldType.int)) ∈ lw_all := lw_g (lw_at lw_m3 134 rfl) rfl
theorem q694 : (Jvm.Cond.methodLink "InterestTaken$Keeps" (9 : Nat) ({ cls := "InterestTaken$Way", name := "number", desc := "()I" } : Jvm.MethodName)) ∈ lw_all := lw_g (lw_at lw_m3 135 rfl) rfl
theorem q695 : (Jvm.Cond.superclass "InterestTaken$Keeps" "InterestTaken$Way") ∈ lw_all := lw_g (lw_at lw_m3 136 rfl) rfl
theorem q803 : (Jvm.Cond.selects "InterestTaken$Keeps" ({ cls := "InterestTaken$Way", name := "mounts", desc := "(I)I" } : Jvm.MethodName) ({ cls := "InterestTaken$Keeps", name := "mounts", desc := "(I)I" } : Jvm.MethodName)) ∈ lw_all := lw_g (lw_at lw_m4 4 rfl) rfl
theorem q804 : (Jvm.Cond.instanceMethod ({ cls := "InterestTaken$Keeps", name := "mounts", desc := "(I)I" } : Jvm.MethodName)) ∈ lw_all := lw_g (lw_at lw_m4 5 rfl) rfl
theorem q805 : (Jvm.Cond.code ({ cls := "InterestTaken$Keeps", name := "mounts", desc := "(I)I" } : Jvm.MethodName) prog_4_method_3_code (2 : Nat) (Option.some Jvm.ClassFile.FieldType.int)) ∈ lw_all := lw_g (lw_at lw_m4 6 rfl) rfl
theorem q806 : (Jvm.Cond.methodLink "InterestTaken$Keeps" (13 : Nat) ({ cls := "InterestTaken$Way", name := "mounts", desc := "(I)I" } : Jvm.MethodName)) ∈ lw_all := lw_g (lw_at lw_m4 7 rfl) rfl
theorem q816 : (Jvm.Cond.selects "InterestTaken$Keeps" ({ cls := "InterestTaken$Way", name := "comes", desc := "(Z)Z" } : Jvm.MethodName) ({ cls := "InterestTaken$Keeps", name := "comes", desc := "(Z)Z" } : Jvm.MethodName)) ∈ lw_all := lw_g (lw_at lw_m4 17 rfl) rfl
theorem q817 : (Jvm.Cond.instanceMethod ({ cls := "InterestTaken$Keeps", name := "comes", desc := "(Z)Z" } : Jvm.MethodName)) ∈ lw_all := lw_g (lw_at lw_m4 18 rfl) rfl
theorem q818 : (Jvm.Cond.code ({ cls := "InterestTaken$Keeps", name := "comes", desc := "(Z)Z" } : Jvm.MethodName) prog_4_method_4_code (2 : Nat) (Option.some Jvm.ClassFile.FieldType.boolean)) ∈ lw_all := lw_g (lw_at lw_m4 19 rfl) rfl
theorem q1626 : (Jvm.Cond.castable "InterestTaken$Keeps" "java/lang/Object") ∈ lw_tbl := lw_at lw_m7 107 rfl

/-! InterestTaken$Way -/
set_option maxRecDepth 100000
def RX11 : String := "InterestTaken$Way"
abbrev cX11_number : ByteArray := prog_11_method_2_code
def yX11_number : MethodName := ⟨RX11, "number", "()I"⟩
theorem dX11_number_0 : decode cX11_number 0 = .ok (.iconst 0, 1) := by decide +kernel
theorem dX11_number_1 : decode cX11_number 1 = .ok (.ireturn, 1) := by decide +kernel
abbrev cX11_mounts : ByteArray := prog_11_method_3_code
def yX11_mounts : MethodName := ⟨RX11, "mounts", "(I)I"⟩
theorem dX11_mounts_0 : decode cX11_mounts 0 = .ok (.iload_n 1, 1) := by decide +kernel
theorem dX11_mounts_1 : decode cX11_mounts 1 = .ok (.ireturn, 1) := by decide +kernel
abbrev cX11_comes : ByteArray := prog_11_method_4_code
def yX11_comes : MethodName := ⟨RX11, "comes", "(Z)Z"⟩
theorem dX11_comes_0 : decode cX11_comes 0 = .ok (.iconst 1, 1) := by decide +kernel
theorem dX11_comes_1 : decode cX11_comes 1 = .ok (.ireturn, 1) := by decide +kernel
theorem q631 : (Jvm.Cond.selects "InterestTaken$Way" ({ cls := "java/lang/Object", name := "getClass", desc := "()Ljava/lang/Class;" } : Jvm.MethodName) ({ cls := "java/lang/Object", name := "getClass", desc := "()Ljava/lang/Class;" } : Jvm.MethodName)) ∈ lw_all := lw_g (lw_at lw_m3 72 rfl) rfl
theorem q688 : (Jvm.Cond.instanceMethod ({ cls := "InterestTaken$Way", name := "number", desc := "()I" } : Jvm.MethodName)) ∈ lw_all := lw_g (lw_at lw_m3 129 rfl) rfl
theorem q689 : (Jvm.Cond.selects "InterestTaken$Way" ({ cls := "InterestTaken$Way", name := "number", desc := "()I" } : Jvm.MethodName) ({ cls := "InterestTaken$Way", name := "number", desc := "()I" } : Jvm.MethodName)) ∈ lw_all := lw_g (lw_at lw_m3 130 rfl) rfl
theorem q690 : (Jvm.Cond.sameMethod "InterestTaken$Way" "InterestTaken$Way" "number" "()I") ∈ lw_all := lw_g (lw_at lw_m3 131 rfl) rfl
theorem q696 : (Jvm.Cond.code ({ cls := "InterestTaken$Way", name := "number", desc := "()I" } : Jvm.MethodName) prog_11_method_2_code (1 : Nat) (Option.some Jvm.ClassFile.FieldType.int)) ∈ lw_all := lw_g (lw_at lw_m3 137 rfl) rfl
theorem q800 : (Jvm.Cond.instanceMethod ({ cls := "InterestTaken$Way", name := "mounts", desc := "(I)I" } : Jvm.MethodName)) ∈ lw_all := lw_g (lw_at lw_m4 1 rfl) rfl
theorem q801 : (Jvm.Cond.selects "InterestTaken$Way" ({ cls := "InterestTaken$Way", name := "mounts", desc := "(I)I" } : Jvm.MethodName) ({ cls := "InterestTaken$Way", name := "mounts", desc := "(I)I" } : Jvm.MethodName)) ∈ lw_all := lw_g (lw_at lw_m4 2 rfl) rfl
theorem q802 : (Jvm.Cond.sameMethod "InterestTaken$Way" "InterestTaken$Way" "mounts" "(I)I") ∈ lw_all := lw_g (lw_at lw_m4 3 rfl) rfl
theorem q807 : (Jvm.Cond.code ({ cls := "InterestTaken$Way", name := "mounts", desc := "(I)I" } : Jvm.MethodName) prog_11_method_3_code (2 : Nat) (Option.some Jvm.ClassFile.FieldType.int)) ∈ lw_all := lw_g (lw_at lw_m4 8 rfl) rfl
theorem q813 : (Jvm.Cond.instanceMethod ({ cls := "InterestTaken$Way", name := "comes", desc := "(Z)Z" } : Jvm.MethodName)) ∈ lw_all := lw_g (lw_at lw_m4 14 rfl) rfl
theorem q814 : (Jvm.Cond.selects "InterestTaken$Way" ({ cls := "InterestTaken$Way", name := "comes", desc := "(Z)Z" } : Jvm.MethodName) ({ cls := "InterestTaken$Way", name := "comes", desc := "(Z)Z" } : Jvm.MethodName)) ∈ lw_all := lw_g (lw_at lw_m4 15 rfl) rfl
theorem q815 : (Jvm.Cond.sameMethod "InterestTaken$Way" "InterestTaken$Way" "comes" "(Z)Z") ∈ lw_all := lw_g (lw_at lw_m4 16 rfl) rfl
theorem q819 : (Jvm.Cond.code ({ cls := "InterestTaken$Way", name := "comes", desc := "(Z)Z" } : Jvm.MethodName) prog_11_method_4_code (2 : Nat) (Option.some Jvm.ClassFile.FieldType.boolean)) ∈ lw_all := lw_g (lw_at lw_m4 20 rfl) rfl
theorem q1618 : (Jvm.Cond.castable "InterestTaken$Way" "java/lang/Object") ∈ lw_tbl := lw_at lw_m7 99 rfl

/-! InterestTaken$Yawner -/
set_option maxRecDepth 100000
def RX12 : String := "InterestTaken$Yawner"
abbrev cX12_hears : ByteArray := prog_12_method_2_code
def yX12_hears : MethodName := ⟨RX12, "hears", "(II)I"⟩
def dkwX12_hears_0 : List UInt8 := [42, 27, 28, 5, 108, 183, 0, 7, 172]
abbrev dktX12_hears_0 : List UInt8 := dkwX12_hears_0 ++ []
theorem dksX12_hears_0 : cX12_hears.data.toList.drop 0 = dktX12_hears_0 := by decide +kernel
theorem dX12_hears_0 : decode cX12_hears 0 = .ok (.aload_n 0, 1) := dk_42 (dk_at dksX12_hears_0 0 rfl rfl)
theorem dX12_hears_1 : decode cX12_hears 1 = .ok (.iload_n 1, 1) := dk_27 (dk_at dksX12_hears_0 1 rfl rfl)
theorem dX12_hears_2 : decode cX12_hears 2 = .ok (.iload_n 2, 1) := dk_28 (dk_at dksX12_hears_0 2 rfl rfl)
theorem dX12_hears_3 : decode cX12_hears 3 = .ok (.iconst 2, 1) := dk_5 (dk_at dksX12_hears_0 3 rfl rfl)
theorem dX12_hears_4 : decode cX12_hears 4 = .ok (.idiv, 1) := dk_108 (dk_at dksX12_hears_0 4 rfl rfl)
theorem dX12_hears_5 : decode cX12_hears 5 = .ok (.invokespecial 7, 3) := dk_183 0 7 (dk_at dksX12_hears_0 5 rfl rfl)
theorem dX12_hears_8 : decode cX12_hears 8 = .ok (.ireturn, 1) := dk_172 (dk_at dksX12_hears_0 8 rfl rfl)
abbrev cX12_takes : ByteArray := prog_12_method_3_code
def yX12_takes : MethodName := ⟨RX12, "takes", "(I)I"⟩
def dkwX12_takes_0 : List UInt8 := [5, 42, 27, 183, 0, 11, 104, 172]
abbrev dktX12_takes_0 : List UInt8 := dkwX12_takes_0 ++ []
theorem dksX12_takes_0 : cX12_takes.data.toList.drop 0 = dktX12_takes_0 := by decide +kernel
theorem dX12_takes_0 : decode cX12_takes 0 = .ok (.iconst 2, 1) := dk_5 (dk_at dksX12_takes_0 0 rfl rfl)
theorem dX12_takes_1 : decode cX12_takes 1 = .ok (.aload_n 0, 1) := dk_42 (dk_at dksX12_takes_0 1 rfl rfl)
theorem dX12_takes_2 : decode cX12_takes 2 = .ok (.iload_n 1, 1) := dk_27 (dk_at dksX12_takes_0 2 rfl rfl)
theorem dX12_takes_3 : decode cX12_takes 3 = .ok (.invokespecial 11, 3) := dk_183 0 11 (dk_at dksX12_takes_0 3 rfl rfl)
theorem dX12_takes_6 : decode cX12_takes 6 = .ok (.imul, 1) := dk_104 (dk_at dksX12_takes_0 6 rfl rfl)
theorem dX12_takes_7 : decode cX12_takes 7 = .ok (.ireturn, 1) := dk_172 (dk_at dksX12_takes_0 7 rfl rfl)
theorem q632 : (Jvm.Cond.selects "InterestTaken$Yawner" ({ cls := "java/lang/Object", name := "getClass", desc := "()Ljava/lang/Class;" } : Jvm.MethodName) ({ cls := "java/lang/Object", name := "getClass", desc := "()Ljava/lang/Class;" } : Jvm.MethodName)) ∈ lw_all := lw_g (lw_at lw_m3 73 rfl) rfl
theorem q834 : (Jvm.Cond.selects "InterestTaken$Yawner" ({ cls := "InterestTaken$Ear", name := "hears", desc := "(II)I" } : Jvm.MethodName) ({ cls := "InterestTaken$Yawner", name := "hears", desc := "(II)I" } : Jvm.MethodName)) ∈ lw_all := lw_g (lw_at lw_m4 35 rfl) rfl
theorem q835 : (Jvm.Cond.instanceMethod ({ cls := "InterestTaken$Yawner", name := "hears", desc := "(II)I" } : Jvm.MethodName)) ∈ lw_all := lw_g (lw_at lw_m4 36 rfl) rfl
theorem q836 : (Jvm.Cond.code ({ cls := "InterestTaken$Yawner", name := "hears", desc := "(II)I" } : Jvm.MethodName) prog_12_method_2_code (3 : Nat) (Option.some Jvm.ClassFile.FieldType.int)) ∈ lw_all := lw_g (lw_at lw_m4 37 rfl) rfl
theorem q837 : (Jvm.Cond.methodLink "InterestTaken$Yawner" (7 : Nat) ({ cls := "InterestTaken$Ear", name := "hears", desc := "(II)I" } : Jvm.MethodName)) ∈ lw_all := lw_g (lw_at lw_m4 38 rfl) rfl
theorem q838 : (Jvm.Cond.superclass "InterestTaken$Yawner" "InterestTaken$Ear") ∈ lw_all := lw_g (lw_at lw_m4 39 rfl) rfl
theorem q845 : (Jvm.Cond.selects "InterestTaken$Yawner" ({ cls := "InterestTaken$Ear", name := "takes", desc := "(I)I" } : Jvm.MethodName) ({ cls := "InterestTaken$Yawner", name := "takes", desc := "(I)I" } : Jvm.MethodName)) ∈ lw_all := lw_g (lw_at lw_m4 46 rfl) rfl
theorem q846 : (Jvm.Cond.instanceMethod ({ cls := "InterestTaken$Yawner", name := "takes", desc := "(I)I" } : Jvm.MethodName)) ∈ lw_all := lw_g (lw_at lw_m4 47 rfl) rfl
theorem q847 : (Jvm.Cond.code ({ cls := "InterestTaken$Yawner", name := "takes", desc := "(I)I" } : Jvm.MethodName) prog_12_method_3_code (2 : Nat) (Option.some Jvm.ClassFile.FieldType.int)) ∈ lw_all := lw_g (lw_at lw_m4 48 rfl) rfl
theorem q848 : (Jvm.Cond.methodLink "InterestTaken$Yawner" (11 : Nat) ({ cls := "InterestTaken$Ear", name := "takes", desc := "(I)I" } : Jvm.MethodName)) ∈ lw_all := lw_g (lw_at lw_m4 49 rfl) rfl
theorem q1629 : (Jvm.Cond.castable "InterestTaken$Yawner" "java/lang/Object") ∈ lw_tbl := lw_at lw_m7 110 rfl

/-! InterestTaken$Savers -/
set_option maxRecDepth 100000
def RX2 : String := "InterestTaken$Savers"
def TX2 : u_T := fun k => match k with
  | 0 => ("InterestTaken$Text", "bytes", "[B", true)
  | 1 => ("InterestTaken$Text", "most", "I", true)
  | 2 => ("InterestTaken$Text", "typed", "I", false)
  | 3 => ("InterestTaken$Text", "at", "I", false)
  | 4 => ("InterestTaken$Text", "fresh", "Z", false)
  | 5 => ("InterestTaken$Text", "fault", "I", false)
  | _ => ("InterestTaken$Text", "all", "Ljava/util/ArrayList;", true)
def tyX2 : Nat → FieldType := fun k => match k with
  | 0 => .array .byte
  | 1 => .int
  | 2 => .int
  | 3 => .int
  | 4 => .boolean
  | 5 => .int
  | _ => .object "java/util/ArrayList"
abbrev wsX20 : List Cond := u_ws RX2 TX2 7
theorem nmX2 : ∀ a, a < 7 → ∀ b, b < 7 → a ≠ b → (TX2 a).2.1 ≠ (TX2 b).2.1 := by decide +kernel
theorem tyX2_ok : ∀ k, k < 7 → parseFieldDescriptor (TX2 k).2.2.1 = some (tyX2 k) := by decide +kernel
abbrev cX2_init : ByteArray := prog_7_method_1_code
def yX2_init : MethodName := ⟨RX2, "<init>", "()V"⟩
def dkwX2_init_0 : List UInt8 := [42, 16, 31, 16, 8, 183, 0, 3, 177]
abbrev dktX2_init_0 : List UInt8 := dkwX2_init_0 ++ []
theorem dksX2_init_0 : cX2_init.data.toList.drop 0 = dktX2_init_0 := by decide +kernel
theorem dX2_init_0 : decode cX2_init 0 = .ok (.aload_n 0, 1) := dk_42 (dk_at dksX2_init_0 0 rfl rfl)
theorem dX2_init_1 : decode cX2_init 1 = .ok (.bipush 31, 2) := dk_16 31 (dk_at dksX2_init_0 1 rfl rfl)
theorem dX2_init_3 : decode cX2_init 3 = .ok (.bipush 8, 2) := dk_16 8 (dk_at dksX2_init_0 3 rfl rfl)
theorem dX2_init_5 : decode cX2_init 5 = .ok (.invokespecial 3, 3) := dk_183 0 3 (dk_at dksX2_init_0 5 rfl rfl)
theorem dX2_init_8 : decode cX2_init 8 = .ok (.return_, 1) := dk_177 (dk_at dksX2_init_0 8 rfl rfl)
abbrev cX2_part : ByteArray := prog_7_method_3_code
def yX2_part : MethodName := ⟨RX2, "part", "()Ljava/lang/Object;"⟩
theorem dX2_part_0 : decode cX2_part 0 = .ok (.aload_n 0, 1) := by decide +kernel
theorem dX2_part_1 : decode cX2_part 1 = .ok (.invokevirtual 33, 3) := by decide +kernel
theorem dX2_part_4 : decode cX2_part 4 = .ok (.areturn, 1) := by decide +kernel
abbrev cX2_part_2 : ByteArray := prog_7_method_2_code
def yX2_part_2 : MethodName := ⟨RX2, "part", "()LInterestTaken$Saver;"⟩
def dkwX2_part_2_1 : List UInt8 := [182, 0, 27, 183, 0, 30, 176]
abbrev dktX2_part_2_1 : List UInt8 := dkwX2_part_2_1 ++ []
def dkwX2_part_2_0 : List UInt8 := [42, 182, 0, 9, 60, 178, 0, 15, 42, 18, 19, 182, 0, 21, 50, 77, 187, 0, 25, 89, 27, 44, 42]
abbrev dktX2_part_2_0 : List UInt8 := dkwX2_part_2_0 ++ dktX2_part_2_1
theorem dksX2_part_2_0 : cX2_part_2.data.toList.drop 0 = dktX2_part_2_0 := by decide +kernel
theorem dksX2_part_2_1 : cX2_part_2.data.toList.drop 23 = dktX2_part_2_1 := dk_seg dksX2_part_2_0 23 rfl rfl
theorem dX2_part_2_0 : decode cX2_part_2 0 = .ok (.aload_n 0, 1) := dk_42 (dk_at dksX2_part_2_0 0 rfl rfl)
theorem dX2_part_2_1 : decode cX2_part_2 1 = .ok (.invokevirtual 9, 3) := dk_182 0 9 (dk_at dksX2_part_2_0 1 rfl rfl)
theorem dX2_part_2_4 : decode cX2_part_2 4 = .ok (.istore_n 1, 1) := dk_60 (dk_at dksX2_part_2_0 4 rfl rfl)
theorem dX2_part_2_5 : decode cX2_part_2 5 = .ok (.getstatic 15, 3) := dk_178 0 15 (dk_at dksX2_part_2_0 5 rfl rfl)
theorem dX2_part_2_8 : decode cX2_part_2 8 = .ok (.aload_n 0, 1) := dk_42 (dk_at dksX2_part_2_0 8 rfl rfl)
theorem dX2_part_2_9 : decode cX2_part_2 9 = .ok (.ldc 19, 2) := dk_18 19 (dk_at dksX2_part_2_0 9 rfl rfl)
theorem dX2_part_2_11 : decode cX2_part_2 11 = .ok (.invokevirtual 21, 3) := dk_182 0 21 (dk_at dksX2_part_2_0 11 rfl rfl)
theorem dX2_part_2_14 : decode cX2_part_2 14 = .ok (.aaload, 1) := dk_50 (dk_at dksX2_part_2_0 14 rfl rfl)
theorem dX2_part_2_15 : decode cX2_part_2 15 = .ok (.astore_n 2, 1) := dk_77 (dk_at dksX2_part_2_0 15 rfl rfl)
theorem dX2_part_2_16 : decode cX2_part_2 16 = .ok (.new 25, 3) := dk_187 0 25 (dk_at dksX2_part_2_0 16 rfl rfl)
theorem dX2_part_2_19 : decode cX2_part_2 19 = .ok (.dup, 1) := dk_89 (dk_at dksX2_part_2_0 19 rfl rfl)
theorem dX2_part_2_20 : decode cX2_part_2 20 = .ok (.iload_n 1, 1) := dk_27 (dk_at dksX2_part_2_0 20 rfl rfl)
theorem dX2_part_2_21 : decode cX2_part_2 21 = .ok (.aload_n 2, 1) := dk_44 (dk_at dksX2_part_2_0 21 rfl rfl)
theorem dX2_part_2_22 : decode cX2_part_2 22 = .ok (.aload_n 0, 1) := dk_42 (dk_at dksX2_part_2_0 22 rfl rfl)
theorem dX2_part_2_23 : decode cX2_part_2 23 = .ok (.invokevirtual 27, 3) := dk_182 0 27 (dk_at dksX2_part_2_1 0 rfl rfl)
theorem dX2_part_2_26 : decode cX2_part_2 26 = .ok (.invokespecial 30, 3) := dk_183 0 30 (dk_at dksX2_part_2_1 3 rfl rfl)
theorem dX2_part_2_29 : decode cX2_part_2 29 = .ok (.areturn, 1) := dk_176 (dk_at dksX2_part_2_1 6 rfl rfl)
theorem q82 : (Jvm.Cond.initialized "InterestTaken$Savers") ∈ lw_all := lw_g (lw_at lw_m1 3 rfl) rfl
theorem q118 : (Jvm.Cond.instantiable "InterestTaken$Savers" (7 : Nat)) ∈ lw_all := lw_g (lw_at lw_m1 39 rfl) rfl
theorem q120 : (Jvm.Cond.instanceMethod ({ cls := "InterestTaken$Savers", name := "<init>", desc := "()V" } : Jvm.MethodName)) ∈ lw_all := lw_g (lw_at lw_m1 41 rfl) rfl
theorem q121 : (Jvm.Cond.code ({ cls := "InterestTaken$Savers", name := "<init>", desc := "()V" } : Jvm.MethodName) prog_7_method_1_code (1 : Nat) (Option.none : Option Jvm.ClassFile.FieldType)) ∈ lw_all := lw_g (lw_at lw_m1 42 rfl) rfl
theorem q122 : (Jvm.Cond.methodLink "InterestTaken$Savers" (3 : Nat) ({ cls := "InterestTaken$Text", name := "<init>", desc := "(II)V" } : Jvm.MethodName)) ∈ lw_all := lw_g (lw_at lw_m1 43 rfl) rfl
theorem q160 : (Jvm.Cond.sameField "InterestTaken$Savers" "InterestTaken$Text" "all" "Ljava/util/ArrayList;") ∈ lw_all := lw_g (lw_at lw_m1 81 rfl) rfl
theorem q163 : (Jvm.Cond.laysFinal "InterestTaken$Savers" "InterestTaken$Text" "bytes" "[B") ∈ lw_all := lw_g (lw_at lw_m1 84 rfl) rfl
theorem q165 : (Jvm.Cond.laysFinal "InterestTaken$Savers" "InterestTaken$Text" "most" "I") ∈ lw_all := lw_g (lw_at lw_m1 86 rfl) rfl
theorem q167 : (Jvm.Cond.lays "InterestTaken$Savers" "InterestTaken$Text" "typed" "I") ∈ lw_all := lw_g (lw_at lw_m1 88 rfl) rfl
theorem q169 : (Jvm.Cond.lays "InterestTaken$Savers" "InterestTaken$Text" "at" "I") ∈ lw_all := lw_g (lw_at lw_m1 90 rfl) rfl
theorem q171 : (Jvm.Cond.lays "InterestTaken$Savers" "InterestTaken$Text" "fresh" "Z") ∈ lw_all := lw_g (lw_at lw_m1 92 rfl) rfl
theorem q173 : (Jvm.Cond.lays "InterestTaken$Savers" "InterestTaken$Text" "fault" "I") ∈ lw_all := lw_g (lw_at lw_m1 94 rfl) rfl
theorem q175 : (Jvm.Cond.laysFinal "InterestTaken$Savers" "InterestTaken$Text" "all" "Ljava/util/ArrayList;") ∈ lw_all := lw_g (lw_at lw_m1 96 rfl) rfl
theorem q177 : (Jvm.Cond.superclass "InterestTaken$Savers" "InterestTaken$Text") ∈ lw_all := lw_g (lw_at lw_m1 98 rfl) rfl
theorem q321 : (Jvm.Cond.selects "InterestTaken$Savers" ({ cls := "InterestTaken$Text", name := "type", desc := "(I)I" } : Jvm.MethodName) ({ cls := "InterestTaken$Text", name := "type", desc := "(I)I" } : Jvm.MethodName)) ∈ lw_all := lw_g (lw_at lw_m2 2 rfl) rfl
theorem q331 : (Jvm.Cond.selects "InterestTaken$Savers" ({ cls := "InterestTaken$Text", name := "wipe", desc := "()I" } : Jvm.MethodName) ({ cls := "InterestTaken$Text", name := "wipe", desc := "()I" } : Jvm.MethodName)) ∈ lw_all := lw_g (lw_at lw_m2 12 rfl) rfl
theorem q341 : (Jvm.Cond.selects "InterestTaken$Savers" ({ cls := "InterestTaken$Text", name := "undo", desc := "()I" } : Jvm.MethodName) ({ cls := "InterestTaken$Text", name := "undo", desc := "()I" } : Jvm.MethodName)) ∈ lw_all := lw_g (lw_at lw_m2 22 rfl) rfl
theorem q351 : (Jvm.Cond.selects "InterestTaken$Savers" ({ cls := "InterestTaken$Text", name := "read", desc := "()I" } : Jvm.MethodName) ({ cls := "InterestTaken$Text", name := "read", desc := "()I" } : Jvm.MethodName)) ∈ lw_all := lw_g (lw_at lw_m2 32 rfl) rfl
theorem q456 : (Jvm.Cond.selects "InterestTaken$Savers" ({ cls := "InterestTaken$Text", name := "passes", desc := "(Ljava/lang/String;)I" } : Jvm.MethodName) ({ cls := "InterestTaken$Text", name := "passes", desc := "(Ljava/lang/String;)I" } : Jvm.MethodName)) ∈ lw_all := lw_g (lw_at lw_m2 137 rfl) rfl
theorem q553 : (Jvm.Cond.selects "InterestTaken$Savers" ({ cls := "InterestTaken$Text", name := "part", desc := "()Ljava/lang/Object;" } : Jvm.MethodName) ({ cls := "InterestTaken$Savers", name := "part", desc := "()Ljava/lang/Object;" } : Jvm.MethodName)) ∈ lw_all := lw_g (lw_at lw_m2 234 rfl) rfl
theorem q554 : (Jvm.Cond.instanceMethod ({ cls := "InterestTaken$Savers", name := "part", desc := "()Ljava/lang/Object;" } : Jvm.MethodName)) ∈ lw_all := lw_g (lw_at lw_m2 235 rfl) rfl
theorem q555 : (Jvm.Cond.code ({ cls := "InterestTaken$Savers", name := "part", desc := "()Ljava/lang/Object;" } : Jvm.MethodName) prog_7_method_3_code (1 : Nat) (Option.some (Jvm.ClassFile.FieldType.object "java/lang/Object"))) ∈ lw_all := lw_g (lw_at lw_m2 236 rfl) rfl
theorem q556 : (Jvm.Cond.methodLink "InterestTaken$Savers" (33 : Nat) ({ cls := "InterestTaken$Savers", name := "part", desc := "()LInterestTaken$Saver;" } : Jvm.MethodName)) ∈ lw_all := lw_g (lw_at lw_m2 237 rfl) rfl
theorem q557 : (Jvm.Cond.instanceMethod ({ cls := "InterestTaken$Savers", name := "part", desc := "()LInterestTaken$Saver;" } : Jvm.MethodName)) ∈ lw_all := lw_g (lw_at lw_m2 238 rfl) rfl
theorem q558 : (Jvm.Cond.selects "InterestTaken$Savers" ({ cls := "InterestTaken$Savers", name := "part", desc := "()LInterestTaken$Saver;" } : Jvm.MethodName) ({ cls := "InterestTaken$Savers", name := "part", desc := "()LInterestTaken$Saver;" } : Jvm.MethodName)) ∈ lw_all := lw_g (lw_at lw_m2 239 rfl) rfl
theorem q559 : (Jvm.Cond.code ({ cls := "InterestTaken$Savers", name := "part", desc := "()LInterestTaken$Saver;" } : Jvm.MethodName) prog_7_method_2_code (3 : Nat) (Option.some (Jvm.ClassFile.FieldType.object "InterestTaken$Saver"))) ∈ lw_all := lw_g (lw_at lw_m3 0 rfl) rfl
theorem q560 : (Jvm.Cond.methodLink "InterestTaken$Savers" (9 : Nat) ({ cls := "InterestTaken$Savers", name := "figure", desc := "()I" } : Jvm.MethodName)) ∈ lw_all := lw_g (lw_at lw_m3 1 rfl) rfl
theorem q561 : (Jvm.Cond.sameMethod "InterestTaken$Savers" "InterestTaken$Text" "figure" "()I") ∈ lw_all := lw_g (lw_at lw_m3 2 rfl) rfl
theorem q562 : (Jvm.Cond.selects "InterestTaken$Savers" ({ cls := "InterestTaken$Savers", name := "figure", desc := "()I" } : Jvm.MethodName) ({ cls := "InterestTaken$Text", name := "figure", desc := "()I" } : Jvm.MethodName)) ∈ lw_all := lw_g (lw_at lw_m3 3 rfl) rfl
theorem q563 : (Jvm.Cond.fieldLinkNest "InterestTaken$Savers" (15 : Nat) "InterestTaken" "WAYS" "[LInterestTaken$Way;" "InterestTaken") ∈ lw_tbl := lw_at lw_m3 4 rfl
theorem q565 : (Jvm.Cond.stringRef "InterestTaken$Savers" (19 : Nat) "dk") ∈ lw_tbl := lw_at lw_m3 6 rfl
theorem q566 : (Jvm.Cond.methodLink "InterestTaken$Savers" (21 : Nat) ({ cls := "InterestTaken$Savers", name := "passes", desc := "(Ljava/lang/String;)I" } : Jvm.MethodName)) ∈ lw_all := lw_g (lw_at lw_m3 7 rfl) rfl
theorem q567 : (Jvm.Cond.sameMethod "InterestTaken$Savers" "InterestTaken$Text" "passes" "(Ljava/lang/String;)I") ∈ lw_all := lw_g (lw_at lw_m3 8 rfl) rfl
theorem q569 : (Jvm.Cond.selects "InterestTaken$Savers" ({ cls := "InterestTaken$Savers", name := "passes", desc := "(Ljava/lang/String;)I" } : Jvm.MethodName) ({ cls := "InterestTaken$Text", name := "passes", desc := "(Ljava/lang/String;)I" } : Jvm.MethodName)) ∈ lw_all := lw_g (lw_at lw_m3 10 rfl) rfl
theorem q570 : (Jvm.Cond.classLink "InterestTaken$Savers" (25 : Nat) "InterestTaken$Saver") ∈ lw_all := lw_g (lw_at lw_m3 11 rfl) rfl
theorem q572 : (Jvm.Cond.methodLink "InterestTaken$Savers" (27 : Nat) ({ cls := "InterestTaken$Savers", name := "topic", desc := "()I" } : Jvm.MethodName)) ∈ lw_all := lw_g (lw_at lw_m3 13 rfl) rfl
theorem q573 : (Jvm.Cond.sameMethod "InterestTaken$Savers" "InterestTaken$Text" "topic" "()I") ∈ lw_all := lw_g (lw_at lw_m3 14 rfl) rfl
theorem q574 : (Jvm.Cond.selects "InterestTaken$Savers" ({ cls := "InterestTaken$Savers", name := "topic", desc := "()I" } : Jvm.MethodName) ({ cls := "InterestTaken$Text", name := "topic", desc := "()I" } : Jvm.MethodName)) ∈ lw_all := lw_g (lw_at lw_m3 15 rfl) rfl
theorem q575 : (Jvm.Cond.methodLink "InterestTaken$Savers" (30 : Nat) ({ cls := "InterestTaken$Saver", name := "<init>", desc := "(ILInterestTaken$Way;I)V" } : Jvm.MethodName)) ∈ lw_all := lw_g (lw_at lw_m3 16 rfl) rfl
theorem q628 : (Jvm.Cond.selects "InterestTaken$Savers" ({ cls := "java/lang/Object", name := "getClass", desc := "()Ljava/lang/Class;" } : Jvm.MethodName) ({ cls := "java/lang/Object", name := "getClass", desc := "()Ljava/lang/Class;" } : Jvm.MethodName)) ∈ lw_all := lw_g (lw_at lw_m3 69 rfl) rfl
theorem q661 : (Jvm.Cond.sameMethod "InterestTaken$Savers" "InterestTaken$Text" "many" "()I") ∈ lw_all := lw_g (lw_at lw_m3 102 rfl) rfl
theorem q663 : (Jvm.Cond.selects "InterestTaken$Savers" ({ cls := "InterestTaken$Savers", name := "many", desc := "()I" } : Jvm.MethodName) ({ cls := "InterestTaken$Text", name := "many", desc := "()I" } : Jvm.MethodName)) ∈ lw_all := lw_g (lw_at lw_m3 104 rfl) rfl
theorem q1118 : (Jvm.Cond.selects "InterestTaken$Savers" ({ cls := "InterestTaken$Text", name := "length", desc := "()I" } : Jvm.MethodName) ({ cls := "InterestTaken$Text", name := "length", desc := "()I" } : Jvm.MethodName)) ∈ lw_all := lw_g (lw_at lw_m5 79 rfl) rfl
theorem q1615 : (Jvm.Cond.selects "InterestTaken$Savers" ({ cls := "InterestTaken$Text", name := "many", desc := "()I" } : Jvm.MethodName) ({ cls := "InterestTaken$Text", name := "many", desc := "()I" } : Jvm.MethodName)) ∈ lw_all := lw_g (lw_at lw_m7 96 rfl) rfl
theorem q1620 : (Jvm.Cond.castable "InterestTaken$Savers" "java/lang/Object") ∈ lw_tbl := lw_at lw_m7 101 rfl
theorem in_X2 : ∀ w ∈ wsX20, w ∈ lw_all := lw_in wsX20 [163, 165, 167, 169, 171, 173, 175] (by decide +kernel) (by decide +kernel)

/-! InterestTaken$Board -/
set_option maxRecDepth 100000
def RX3 : String := "InterestTaken$Board"
def TX3 : u_T := fun k => match k with
  | 0 => ("InterestTaken$Text", "bytes", "[B", true)
  | 1 => ("InterestTaken$Text", "most", "I", true)
  | 2 => ("InterestTaken$Text", "typed", "I", false)
  | 3 => ("InterestTaken$Text", "at", "I", false)
  | 4 => ("InterestTaken$Text", "fresh", "Z", false)
  | 5 => ("InterestTaken$Text", "fault", "I", false)
  | _ => ("InterestTaken$Text", "all", "Ljava/util/ArrayList;", true)
def tyX3 : Nat → FieldType := fun k => match k with
  | 0 => .array .byte
  | 1 => .int
  | 2 => .int
  | 3 => .int
  | 4 => .boolean
  | 5 => .int
  | _ => .object "java/util/ArrayList"
abbrev wsX30 : List Cond := u_ws RX3 TX3 7
theorem nmX3 : ∀ a, a < 7 → ∀ b, b < 7 → a ≠ b → (TX3 a).2.1 ≠ (TX3 b).2.1 := by decide +kernel
theorem tyX3_ok : ∀ k, k < 7 → parseFieldDescriptor (TX3 k).2.2.1 = some (tyX3 k) := by decide +kernel
abbrev cX3_init : ByteArray := prog_2_method_1_code
def yX3_init : MethodName := ⟨RX3, "<init>", "()V"⟩
def dkwX3_init_0 : List UInt8 := [42, 16, 23, 16, 8, 183, 0, 3, 177]
abbrev dktX3_init_0 : List UInt8 := dkwX3_init_0 ++ []
theorem dksX3_init_0 : cX3_init.data.toList.drop 0 = dktX3_init_0 := by decide +kernel
theorem dX3_init_0 : decode cX3_init 0 = .ok (.aload_n 0, 1) := dk_42 (dk_at dksX3_init_0 0 rfl rfl)
theorem dX3_init_1 : decode cX3_init 1 = .ok (.bipush 23, 2) := dk_16 23 (dk_at dksX3_init_0 1 rfl rfl)
theorem dX3_init_3 : decode cX3_init 3 = .ok (.bipush 8, 2) := dk_16 8 (dk_at dksX3_init_0 3 rfl rfl)
theorem dX3_init_5 : decode cX3_init 5 = .ok (.invokespecial 3, 3) := dk_183 0 3 (dk_at dksX3_init_0 5 rfl rfl)
theorem dX3_init_8 : decode cX3_init 8 = .ok (.return_, 1) := dk_177 (dk_at dksX3_init_0 8 rfl rfl)
abbrev cX3_part : ByteArray := prog_2_method_3_code
def yX3_part : MethodName := ⟨RX3, "part", "()Ljava/lang/Object;"⟩
theorem dX3_part_0 : decode cX3_part 0 = .ok (.aload_n 0, 1) := by decide +kernel
theorem dX3_part_1 : decode cX3_part 1 = .ok (.invokevirtual 21, 3) := by decide +kernel
theorem dX3_part_4 : decode cX3_part 4 = .ok (.areturn, 1) := by decide +kernel
abbrev cX3_part_2 : ByteArray := prog_2_method_2_code
def yX3_part_2 : MethodName := ⟨RX3, "part", "()LInterestTaken$Partner;"⟩
def dkwX3_part_2_0 : List UInt8 := [42, 182, 0, 9, 60, 187, 0, 15, 89, 27, 42, 182, 0, 17, 183, 0, 20, 176]
abbrev dktX3_part_2_0 : List UInt8 := dkwX3_part_2_0 ++ []
theorem dksX3_part_2_0 : cX3_part_2.data.toList.drop 0 = dktX3_part_2_0 := by decide +kernel
theorem dX3_part_2_0 : decode cX3_part_2 0 = .ok (.aload_n 0, 1) := dk_42 (dk_at dksX3_part_2_0 0 rfl rfl)
theorem dX3_part_2_1 : decode cX3_part_2 1 = .ok (.invokevirtual 9, 3) := dk_182 0 9 (dk_at dksX3_part_2_0 1 rfl rfl)
theorem dX3_part_2_4 : decode cX3_part_2 4 = .ok (.istore_n 1, 1) := dk_60 (dk_at dksX3_part_2_0 4 rfl rfl)
theorem dX3_part_2_5 : decode cX3_part_2 5 = .ok (.new 15, 3) := dk_187 0 15 (dk_at dksX3_part_2_0 5 rfl rfl)
theorem dX3_part_2_8 : decode cX3_part_2 8 = .ok (.dup, 1) := dk_89 (dk_at dksX3_part_2_0 8 rfl rfl)
theorem dX3_part_2_9 : decode cX3_part_2 9 = .ok (.iload_n 1, 1) := dk_27 (dk_at dksX3_part_2_0 9 rfl rfl)
theorem dX3_part_2_10 : decode cX3_part_2 10 = .ok (.aload_n 0, 1) := dk_42 (dk_at dksX3_part_2_0 10 rfl rfl)
theorem dX3_part_2_11 : decode cX3_part_2 11 = .ok (.invokevirtual 17, 3) := dk_182 0 17 (dk_at dksX3_part_2_0 11 rfl rfl)
theorem dX3_part_2_14 : decode cX3_part_2 14 = .ok (.invokespecial 20, 3) := dk_183 0 20 (dk_at dksX3_part_2_0 14 rfl rfl)
theorem dX3_part_2_17 : decode cX3_part_2 17 = .ok (.areturn, 1) := dk_176 (dk_at dksX3_part_2_0 17 rfl rfl)
theorem q86 : (Jvm.Cond.initialized "InterestTaken$Board") ∈ lw_all := lw_g (lw_at lw_m1 7 rfl) rfl
theorem q162 : (Jvm.Cond.sameField "InterestTaken$Board" "InterestTaken$Text" "all" "Ljava/util/ArrayList;") ∈ lw_all := lw_g (lw_at lw_m1 83 rfl) rfl
theorem q180 : (Jvm.Cond.instantiable "InterestTaken$Board" (7 : Nat)) ∈ lw_all := lw_g (lw_at lw_m1 101 rfl) rfl
theorem q182 : (Jvm.Cond.instanceMethod ({ cls := "InterestTaken$Board", name := "<init>", desc := "()V" } : Jvm.MethodName)) ∈ lw_all := lw_g (lw_at lw_m1 103 rfl) rfl
theorem q183 : (Jvm.Cond.code ({ cls := "InterestTaken$Board", name := "<init>", desc := "()V" } : Jvm.MethodName) prog_2_method_1_code (1 : Nat) (Option.none : Option Jvm.ClassFile.FieldType)) ∈ lw_all := lw_g (lw_at lw_m1 104 rfl) rfl
theorem q184 : (Jvm.Cond.methodLink "InterestTaken$Board" (3 : Nat) ({ cls := "InterestTaken$Text", name := "<init>", desc := "(II)V" } : Jvm.MethodName)) ∈ lw_all := lw_g (lw_at lw_m1 105 rfl) rfl
theorem q185 : (Jvm.Cond.laysFinal "InterestTaken$Board" "InterestTaken$Text" "bytes" "[B") ∈ lw_all := lw_g (lw_at lw_m1 106 rfl) rfl
theorem q186 : (Jvm.Cond.laysFinal "InterestTaken$Board" "InterestTaken$Text" "most" "I") ∈ lw_all := lw_g (lw_at lw_m1 107 rfl) rfl
theorem q187 : (Jvm.Cond.lays "InterestTaken$Board" "InterestTaken$Text" "typed" "I") ∈ lw_all := lw_g (lw_at lw_m1 108 rfl) rfl
theorem q188 : (Jvm.Cond.lays "InterestTaken$Board" "InterestTaken$Text" "at" "I") ∈ lw_all := lw_g (lw_at lw_m1 109 rfl) rfl
theorem q189 : (Jvm.Cond.lays "InterestTaken$Board" "InterestTaken$Text" "fresh" "Z") ∈ lw_all := lw_g (lw_at lw_m1 110 rfl) rfl
theorem q190 : (Jvm.Cond.lays "InterestTaken$Board" "InterestTaken$Text" "fault" "I") ∈ lw_all := lw_g (lw_at lw_m1 111 rfl) rfl
theorem q191 : (Jvm.Cond.laysFinal "InterestTaken$Board" "InterestTaken$Text" "all" "Ljava/util/ArrayList;") ∈ lw_all := lw_g (lw_at lw_m1 112 rfl) rfl
theorem q192 : (Jvm.Cond.superclass "InterestTaken$Board" "InterestTaken$Text") ∈ lw_all := lw_g (lw_at lw_m1 113 rfl) rfl
theorem q320 : (Jvm.Cond.selects "InterestTaken$Board" ({ cls := "InterestTaken$Text", name := "type", desc := "(I)I" } : Jvm.MethodName) ({ cls := "InterestTaken$Text", name := "type", desc := "(I)I" } : Jvm.MethodName)) ∈ lw_all := lw_g (lw_at lw_m2 1 rfl) rfl
theorem q330 : (Jvm.Cond.selects "InterestTaken$Board" ({ cls := "InterestTaken$Text", name := "wipe", desc := "()I" } : Jvm.MethodName) ({ cls := "InterestTaken$Text", name := "wipe", desc := "()I" } : Jvm.MethodName)) ∈ lw_all := lw_g (lw_at lw_m2 11 rfl) rfl
theorem q340 : (Jvm.Cond.selects "InterestTaken$Board" ({ cls := "InterestTaken$Text", name := "undo", desc := "()I" } : Jvm.MethodName) ({ cls := "InterestTaken$Text", name := "undo", desc := "()I" } : Jvm.MethodName)) ∈ lw_all := lw_g (lw_at lw_m2 21 rfl) rfl
theorem q350 : (Jvm.Cond.selects "InterestTaken$Board" ({ cls := "InterestTaken$Text", name := "read", desc := "()I" } : Jvm.MethodName) ({ cls := "InterestTaken$Text", name := "read", desc := "()I" } : Jvm.MethodName)) ∈ lw_all := lw_g (lw_at lw_m2 31 rfl) rfl
theorem q438 : (Jvm.Cond.selects "InterestTaken$Board" ({ cls := "InterestTaken$Text", name := "part", desc := "()Ljava/lang/Object;" } : Jvm.MethodName) ({ cls := "InterestTaken$Board", name := "part", desc := "()Ljava/lang/Object;" } : Jvm.MethodName)) ∈ lw_all := lw_g (lw_at lw_m2 119 rfl) rfl
theorem q439 : (Jvm.Cond.instanceMethod ({ cls := "InterestTaken$Board", name := "part", desc := "()Ljava/lang/Object;" } : Jvm.MethodName)) ∈ lw_all := lw_g (lw_at lw_m2 120 rfl) rfl
theorem q440 : (Jvm.Cond.code ({ cls := "InterestTaken$Board", name := "part", desc := "()Ljava/lang/Object;" } : Jvm.MethodName) prog_2_method_3_code (1 : Nat) (Option.some (Jvm.ClassFile.FieldType.object "java/lang/Object"))) ∈ lw_all := lw_g (lw_at lw_m2 121 rfl) rfl
theorem q441 : (Jvm.Cond.methodLink "InterestTaken$Board" (21 : Nat) ({ cls := "InterestTaken$Board", name := "part", desc := "()LInterestTaken$Partner;" } : Jvm.MethodName)) ∈ lw_all := lw_g (lw_at lw_m2 122 rfl) rfl
theorem q442 : (Jvm.Cond.instanceMethod ({ cls := "InterestTaken$Board", name := "part", desc := "()LInterestTaken$Partner;" } : Jvm.MethodName)) ∈ lw_all := lw_g (lw_at lw_m2 123 rfl) rfl
theorem q443 : (Jvm.Cond.selects "InterestTaken$Board" ({ cls := "InterestTaken$Board", name := "part", desc := "()LInterestTaken$Partner;" } : Jvm.MethodName) ({ cls := "InterestTaken$Board", name := "part", desc := "()LInterestTaken$Partner;" } : Jvm.MethodName)) ∈ lw_all := lw_g (lw_at lw_m2 124 rfl) rfl
theorem q444 : (Jvm.Cond.code ({ cls := "InterestTaken$Board", name := "part", desc := "()LInterestTaken$Partner;" } : Jvm.MethodName) prog_2_method_2_code (2 : Nat) (Option.some (Jvm.ClassFile.FieldType.object "InterestTaken$Partner"))) ∈ lw_all := lw_g (lw_at lw_m2 125 rfl) rfl
theorem q445 : (Jvm.Cond.methodLink "InterestTaken$Board" (9 : Nat) ({ cls := "InterestTaken$Board", name := "figure", desc := "()I" } : Jvm.MethodName)) ∈ lw_all := lw_g (lw_at lw_m2 126 rfl) rfl
theorem q446 : (Jvm.Cond.sameMethod "InterestTaken$Board" "InterestTaken$Text" "figure" "()I") ∈ lw_all := lw_g (lw_at lw_m2 127 rfl) rfl
theorem q448 : (Jvm.Cond.selects "InterestTaken$Board" ({ cls := "InterestTaken$Board", name := "figure", desc := "()I" } : Jvm.MethodName) ({ cls := "InterestTaken$Text", name := "figure", desc := "()I" } : Jvm.MethodName)) ∈ lw_all := lw_g (lw_at lw_m2 129 rfl) rfl
theorem q455 : (Jvm.Cond.selects "InterestTaken$Board" ({ cls := "InterestTaken$Text", name := "passes", desc := "(Ljava/lang/String;)I" } : Jvm.MethodName) ({ cls := "InterestTaken$Text", name := "passes", desc := "(Ljava/lang/String;)I" } : Jvm.MethodName)) ∈ lw_all := lw_g (lw_at lw_m2 136 rfl) rfl
theorem q544 : (Jvm.Cond.classLink "InterestTaken$Board" (15 : Nat) "InterestTaken$Partner") ∈ lw_all := lw_g (lw_at lw_m2 225 rfl) rfl
theorem q545 : (Jvm.Cond.methodLink "InterestTaken$Board" (17 : Nat) ({ cls := "InterestTaken$Board", name := "topic", desc := "()I" } : Jvm.MethodName)) ∈ lw_all := lw_g (lw_at lw_m2 226 rfl) rfl
theorem q546 : (Jvm.Cond.sameMethod "InterestTaken$Board" "InterestTaken$Text" "topic" "()I") ∈ lw_all := lw_g (lw_at lw_m2 227 rfl) rfl
theorem q548 : (Jvm.Cond.selects "InterestTaken$Board" ({ cls := "InterestTaken$Board", name := "topic", desc := "()I" } : Jvm.MethodName) ({ cls := "InterestTaken$Text", name := "topic", desc := "()I" } : Jvm.MethodName)) ∈ lw_all := lw_g (lw_at lw_m2 229 rfl) rfl
theorem q552 : (Jvm.Cond.methodLink "InterestTaken$Board" (20 : Nat) ({ cls := "InterestTaken$Partner", name := "<init>", desc := "(II)V" } : Jvm.MethodName)) ∈ lw_all := lw_g (lw_at lw_m2 233 rfl) rfl
theorem q623 : (Jvm.Cond.selects "InterestTaken$Board" ({ cls := "java/lang/Object", name := "getClass", desc := "()Ljava/lang/Class;" } : Jvm.MethodName) ({ cls := "java/lang/Object", name := "getClass", desc := "()Ljava/lang/Class;" } : Jvm.MethodName)) ∈ lw_all := lw_g (lw_at lw_m3 64 rfl) rfl
theorem q706 : (Jvm.Cond.sameMethod "InterestTaken$Board" "InterestTaken$Text" "many" "()I") ∈ lw_all := lw_g (lw_at lw_m3 147 rfl) rfl
theorem q707 : (Jvm.Cond.selects "InterestTaken$Board" ({ cls := "InterestTaken$Board", name := "many", desc := "()I" } : Jvm.MethodName) ({ cls := "InterestTaken$Text", name := "many", desc := "()I" } : Jvm.MethodName)) ∈ lw_all := lw_g (lw_at lw_m3 148 rfl) rfl
theorem q1117 : (Jvm.Cond.selects "InterestTaken$Board" ({ cls := "InterestTaken$Text", name := "length", desc := "()I" } : Jvm.MethodName) ({ cls := "InterestTaken$Text", name := "length", desc := "()I" } : Jvm.MethodName)) ∈ lw_all := lw_g (lw_at lw_m5 78 rfl) rfl
theorem q1614 : (Jvm.Cond.selects "InterestTaken$Board" ({ cls := "InterestTaken$Text", name := "many", desc := "()I" } : Jvm.MethodName) ({ cls := "InterestTaken$Text", name := "many", desc := "()I" } : Jvm.MethodName)) ∈ lw_all := lw_g (lw_at lw_m7 95 rfl) rfl
theorem q1622 : (Jvm.Cond.castable "InterestTaken$Board" "java/lang/Object") ∈ lw_tbl := lw_at lw_m7 103 rfl
theorem in_X3 : ∀ w ∈ wsX30, w ∈ lw_all := lw_in wsX30 [185, 186, 187, 188, 189, 190, 191] (by decide +kernel) (by decide +kernel)

/-! InterestTaken$Partner -/
set_option maxRecDepth 100000
def RX4 : String := "InterestTaken$Partner"
def TX4 : u_T := fun k => match k with
  | 0 => ("InterestTaken$Partner", "sits", "I", true)
  | _ => ("InterestTaken$Partner", "topic", "I", false)
def tyX4 : Nat → FieldType := fun k => match k with
  | 0 => .int
  | _ => .int
abbrev wsX40 : List Cond := u_ws RX4 TX4 2
theorem nmX4 : ∀ a, a < 2 → ∀ b, b < 2 → a ≠ b → (TX4 a).2.1 ≠ (TX4 b).2.1 := by decide +kernel
theorem tyX4_ok : ∀ k, k < 2 → parseFieldDescriptor (TX4 k).2.2.1 = some (tyX4 k) := by decide +kernel
abbrev cX4_init : ByteArray := prog_5_method_1_code
def yX4_init : MethodName := ⟨RX4, "<init>", "(II)V"⟩
def dkwX4_init_0 : List UInt8 := [42, 183, 0, 1, 42, 27, 181, 0, 7, 42, 28, 181, 0, 13, 177]
abbrev dktX4_init_0 : List UInt8 := dkwX4_init_0 ++ []
theorem dksX4_init_0 : cX4_init.data.toList.drop 0 = dktX4_init_0 := by decide +kernel
theorem dX4_init_0 : decode cX4_init 0 = .ok (.aload_n 0, 1) := dk_42 (dk_at dksX4_init_0 0 rfl rfl)
theorem dX4_init_1 : decode cX4_init 1 = .ok (.invokespecial 1, 3) := dk_183 0 1 (dk_at dksX4_init_0 1 rfl rfl)
theorem dX4_init_4 : decode cX4_init 4 = .ok (.aload_n 0, 1) := dk_42 (dk_at dksX4_init_0 4 rfl rfl)
theorem dX4_init_5 : decode cX4_init 5 = .ok (.iload_n 1, 1) := dk_27 (dk_at dksX4_init_0 5 rfl rfl)
theorem dX4_init_6 : decode cX4_init 6 = .ok (.putfield 7, 3) := dk_181 0 7 (dk_at dksX4_init_0 6 rfl rfl)
theorem dX4_init_9 : decode cX4_init 9 = .ok (.aload_n 0, 1) := dk_42 (dk_at dksX4_init_0 9 rfl rfl)
theorem dX4_init_10 : decode cX4_init 10 = .ok (.iload_n 2, 1) := dk_28 (dk_at dksX4_init_0 10 rfl rfl)
theorem dX4_init_11 : decode cX4_init 11 = .ok (.putfield 13, 3) := dk_181 0 13 (dk_at dksX4_init_0 11 rfl rfl)
theorem dX4_init_14 : decode cX4_init 14 = .ok (.return_, 1) := dk_177 (dk_at dksX4_init_0 14 rfl rfl)
abbrev cX4_by : ByteArray := prog_5_method_2_code
def yX4_by : MethodName := ⟨RX4, "by", "(I)I"⟩
def dkwX4_by_0 : List UInt8 := [27, 154, 0, 10, 42, 180, 0, 7, 167, 0, 7, 42, 180, 0, 13, 172]
abbrev dktX4_by_0 : List UInt8 := dkwX4_by_0 ++ []
theorem dksX4_by_0 : cX4_by.data.toList.drop 0 = dktX4_by_0 := by decide +kernel
theorem dX4_by_0 : decode cX4_by 0 = .ok (.iload_n 1, 1) := dk_27 (dk_at dksX4_by_0 0 rfl rfl)
theorem dX4_by_1 : decode cX4_by 1 = .ok (.ifCond .ne 10, 3) := dk_154 0 10 (dk_at dksX4_by_0 1 rfl rfl)
theorem dX4_by_4 : decode cX4_by 4 = .ok (.aload_n 0, 1) := dk_42 (dk_at dksX4_by_0 4 rfl rfl)
theorem dX4_by_5 : decode cX4_by 5 = .ok (.getfield 7, 3) := dk_180 0 7 (dk_at dksX4_by_0 5 rfl rfl)
theorem dX4_by_8 : decode cX4_by 8 = .ok (.goto 7, 3) := dk_167 0 7 (dk_at dksX4_by_0 8 rfl rfl)
theorem dX4_by_11 : decode cX4_by 11 = .ok (.aload_n 0, 1) := dk_42 (dk_at dksX4_by_0 11 rfl rfl)
theorem dX4_by_12 : decode cX4_by 12 = .ok (.getfield 13, 3) := dk_180 0 13 (dk_at dksX4_by_0 12 rfl rfl)
theorem dX4_by_15 : decode cX4_by 15 = .ok (.ireturn, 1) := dk_172 (dk_at dksX4_by_0 15 rfl rfl)
theorem q87 : (Jvm.Cond.initialized "InterestTaken$Partner") ∈ lw_all := lw_g (lw_at lw_m1 8 rfl) rfl
theorem q198 : (Jvm.Cond.instantiable "InterestTaken$Partner" (2 : Nat)) ∈ lw_all := lw_g (lw_at lw_m1 119 rfl) rfl
theorem q200 : (Jvm.Cond.instanceMethod ({ cls := "InterestTaken$Partner", name := "<init>", desc := "(II)V" } : Jvm.MethodName)) ∈ lw_all := lw_g (lw_at lw_m1 121 rfl) rfl
theorem q201 : (Jvm.Cond.code ({ cls := "InterestTaken$Partner", name := "<init>", desc := "(II)V" } : Jvm.MethodName) prog_5_method_1_code (3 : Nat) (Option.none : Option Jvm.ClassFile.FieldType)) ∈ lw_all := lw_g (lw_at lw_m1 122 rfl) rfl
theorem q202 : (Jvm.Cond.methodLink "InterestTaken$Partner" (1 : Nat) ({ cls := "java/lang/Object", name := "<init>", desc := "()V" } : Jvm.MethodName)) ∈ lw_all := lw_g (lw_at lw_m1 123 rfl) rfl
theorem q203 : (Jvm.Cond.fieldLink "InterestTaken$Partner" (7 : Nat) "InterestTaken$Partner" "sits" "I") ∈ lw_all := lw_g (lw_at lw_m1 124 rfl) rfl
theorem q205 : (Jvm.Cond.fieldLink "InterestTaken$Partner" (13 : Nat) "InterestTaken$Partner" "topic" "I") ∈ lw_all := lw_g (lw_at lw_m1 126 rfl) rfl
theorem q207 : (Jvm.Cond.laysFinal "InterestTaken$Partner" "InterestTaken$Partner" "sits" "I") ∈ lw_all := lw_g (lw_at lw_m1 128 rfl) rfl
theorem q208 : (Jvm.Cond.soleField "InterestTaken$Partner" "sits") ∈ lw_all := lw_g (lw_at lw_m1 129 rfl) rfl
theorem q209 : (Jvm.Cond.lays "InterestTaken$Partner" "InterestTaken$Partner" "topic" "I") ∈ lw_all := lw_g (lw_at lw_m1 130 rfl) rfl
theorem q210 : (Jvm.Cond.soleField "InterestTaken$Partner" "topic") ∈ lw_all := lw_g (lw_at lw_m1 131 rfl) rfl
theorem q211 : (Jvm.Cond.superclass "InterestTaken$Partner" "java/lang/Object") ∈ lw_all := lw_g (lw_at lw_m1 132 rfl) rfl
theorem q626 : (Jvm.Cond.selects "InterestTaken$Partner" ({ cls := "java/lang/Object", name := "getClass", desc := "()Ljava/lang/Class;" } : Jvm.MethodName) ({ cls := "java/lang/Object", name := "getClass", desc := "()Ljava/lang/Class;" } : Jvm.MethodName)) ∈ lw_all := lw_g (lw_at lw_m3 67 rfl) rfl
theorem q709 : (Jvm.Cond.instanceMethod ({ cls := "InterestTaken$Partner", name := "by", desc := "(I)I" } : Jvm.MethodName)) ∈ lw_all := lw_g (lw_at lw_m3 150 rfl) rfl
theorem q710 : (Jvm.Cond.selects "InterestTaken$Partner" ({ cls := "InterestTaken$Partner", name := "by", desc := "(I)I" } : Jvm.MethodName) ({ cls := "InterestTaken$Partner", name := "by", desc := "(I)I" } : Jvm.MethodName)) ∈ lw_all := lw_g (lw_at lw_m3 151 rfl) rfl
theorem q711 : (Jvm.Cond.code ({ cls := "InterestTaken$Partner", name := "by", desc := "(I)I" } : Jvm.MethodName) prog_5_method_2_code (2 : Nat) (Option.some Jvm.ClassFile.FieldType.int)) ∈ lw_all := lw_g (lw_at lw_m3 152 rfl) rfl
theorem q1623 : (Jvm.Cond.castable "InterestTaken$Partner" "java/lang/Object") ∈ lw_tbl := lw_at lw_m7 104 rfl
theorem in_X4 : ∀ w ∈ wsX40, w ∈ lw_all := lw_in wsX40 [207, 209] (by decide +kernel) (by decide +kernel)

/-! InterestTaken$Sheet -/
set_option maxRecDepth 100000
def RX5 : String := "InterestTaken$Sheet"
def TX5 : u_T := fun k => match k with
  | _ => ("InterestTaken$Sheet", "row", "Ljava/lang/Object;", false)
def tyX5 : Nat → FieldType := fun k => match k with
  | _ => .object "java/lang/Object"
abbrev wsX50 : List Cond := u_ws RX5 TX5 1
theorem nmX5 : ∀ a, a < 1 → ∀ b, b < 1 → a ≠ b → (TX5 a).2.1 ≠ (TX5 b).2.1 := by decide +kernel
theorem tyX5_ok : ∀ k, k < 1 → parseFieldDescriptor (TX5 k).2.2.1 = some (tyX5 k) := by decide +kernel
abbrev cX5_init : ByteArray := prog_8_method_1_code
def yX5_init : MethodName := ⟨RX5, "<init>", "()V"⟩
theorem dX5_init_0 : decode cX5_init 0 = .ok (.aload_n 0, 1) := by decide +kernel
theorem dX5_init_1 : decode cX5_init 1 = .ok (.invokespecial 1, 3) := by decide +kernel
theorem dX5_init_4 : decode cX5_init 4 = .ok (.return_, 1) := by decide +kernel
abbrev cX5_size : ByteArray := prog_8_method_3_code
def yX5_size : MethodName := ⟨RX5, "size", "()I"⟩
def dkwX5_size_3 : List UInt8 := [192, 0, 21, 190, 172]
abbrev dktX5_size_3 : List UInt8 := dkwX5_size_3 ++ []
def dkwX5_size_2 : List UInt8 := [42, 180, 0, 7, 192, 0, 13, 190, 172, 42, 180, 0, 7, 192, 0, 15, 190, 172, 42, 180, 0, 7]
abbrev dktX5_size_2 : List UInt8 := dkwX5_size_2 ++ dktX5_size_3
def dkwX5_size_1 : List UInt8 := [171, 0, 0, 0, 0, 0, 0, 46, 0, 0, 0, 2, 0, 0, 0, 0, 0, 0, 0, 28, 0, 0, 0, 1, 0, 0, 0, 37]
abbrev dktX5_size_1 : List UInt8 := dkwX5_size_1 ++ dktX5_size_2
def dkwX5_size_0 : List UInt8 := [42, 182, 0, 17]
abbrev dktX5_size_0 : List UInt8 := dkwX5_size_0 ++ dktX5_size_1
theorem dksX5_size_0 : cX5_size.data.toList.drop 0 = dktX5_size_0 := by decide +kernel
theorem dksX5_size_1 : cX5_size.data.toList.drop 4 = dktX5_size_1 := dk_seg dksX5_size_0 4 rfl rfl
theorem dksX5_size_2 : cX5_size.data.toList.drop 32 = dktX5_size_2 := dk_seg dksX5_size_1 28 rfl rfl
theorem dksX5_size_3 : cX5_size.data.toList.drop 54 = dktX5_size_3 := dk_seg dksX5_size_2 22 rfl rfl
theorem dX5_size_0 : decode cX5_size 0 = .ok (.aload_n 0, 1) := dk_42 (dk_at dksX5_size_0 0 rfl rfl)
theorem dX5_size_1 : decode cX5_size 1 = .ok (.invokevirtual 17, 3) := dk_182 0 17 (dk_at dksX5_size_0 1 rfl rfl)
theorem dX5_size_4 : decode cX5_size 4 = .ok (.lookupswitch 46 #[(0, 28), (1, 37)], 28) := by decide +kernel
theorem dX5_size_32 : decode cX5_size 32 = .ok (.aload_n 0, 1) := dk_42 (dk_at dksX5_size_2 0 rfl rfl)
theorem dX5_size_33 : decode cX5_size 33 = .ok (.getfield 7, 3) := dk_180 0 7 (dk_at dksX5_size_2 1 rfl rfl)
theorem dX5_size_36 : decode cX5_size 36 = .ok (.checkcast 13, 3) := dk_192 0 13 (dk_at dksX5_size_2 4 rfl rfl)
theorem dX5_size_39 : decode cX5_size 39 = .ok (.arraylength, 1) := dk_190 (dk_at dksX5_size_2 7 rfl rfl)
theorem dX5_size_40 : decode cX5_size 40 = .ok (.ireturn, 1) := dk_172 (dk_at dksX5_size_2 8 rfl rfl)
theorem dX5_size_41 : decode cX5_size 41 = .ok (.aload_n 0, 1) := dk_42 (dk_at dksX5_size_2 9 rfl rfl)
theorem dX5_size_42 : decode cX5_size 42 = .ok (.getfield 7, 3) := dk_180 0 7 (dk_at dksX5_size_2 10 rfl rfl)
theorem dX5_size_45 : decode cX5_size 45 = .ok (.checkcast 15, 3) := dk_192 0 15 (dk_at dksX5_size_2 13 rfl rfl)
theorem dX5_size_48 : decode cX5_size 48 = .ok (.arraylength, 1) := dk_190 (dk_at dksX5_size_2 16 rfl rfl)
theorem dX5_size_49 : decode cX5_size 49 = .ok (.ireturn, 1) := dk_172 (dk_at dksX5_size_2 17 rfl rfl)
theorem dX5_size_50 : decode cX5_size 50 = .ok (.aload_n 0, 1) := dk_42 (dk_at dksX5_size_2 18 rfl rfl)
theorem dX5_size_51 : decode cX5_size 51 = .ok (.getfield 7, 3) := dk_180 0 7 (dk_at dksX5_size_2 19 rfl rfl)
theorem dX5_size_54 : decode cX5_size 54 = .ok (.checkcast 21, 3) := dk_192 0 21 (dk_at dksX5_size_3 0 rfl rfl)
theorem dX5_size_57 : decode cX5_size 57 = .ok (.arraylength, 1) := dk_190 (dk_at dksX5_size_3 3 rfl rfl)
theorem dX5_size_58 : decode cX5_size 58 = .ok (.ireturn, 1) := dk_172 (dk_at dksX5_size_3 4 rfl rfl)
abbrev cX5_type : ByteArray := prog_8_method_2_code
def yX5_type : MethodName := ⟨RX5, "type", "()I"⟩
def dkwX5_type_1 : List UInt8 := [4, 167, 0, 4, 5, 172]
abbrev dktX5_type_1 : List UInt8 := dkwX5_type_1 ++ []
def dkwX5_type_0 : List UInt8 := [42, 180, 0, 7, 193, 0, 13, 153, 0, 7, 3, 167, 0, 18, 42, 180, 0, 7, 193, 0, 15, 153, 0, 7]
abbrev dktX5_type_0 : List UInt8 := dkwX5_type_0 ++ dktX5_type_1
theorem dksX5_type_0 : cX5_type.data.toList.drop 0 = dktX5_type_0 := by decide +kernel
theorem dksX5_type_1 : cX5_type.data.toList.drop 24 = dktX5_type_1 := dk_seg dksX5_type_0 24 rfl rfl
theorem dX5_type_0 : decode cX5_type 0 = .ok (.aload_n 0, 1) := dk_42 (dk_at dksX5_type_0 0 rfl rfl)
theorem dX5_type_1 : decode cX5_type 1 = .ok (.getfield 7, 3) := dk_180 0 7 (dk_at dksX5_type_0 1 rfl rfl)
theorem dX5_type_4 : decode cX5_type 4 = .ok (.instanceof 13, 3) := dk_193 0 13 (dk_at dksX5_type_0 4 rfl rfl)
theorem dX5_type_7 : decode cX5_type 7 = .ok (.ifCond .eq 7, 3) := dk_153 0 7 (dk_at dksX5_type_0 7 rfl rfl)
theorem dX5_type_10 : decode cX5_type 10 = .ok (.iconst 0, 1) := dk_3 (dk_at dksX5_type_0 10 rfl rfl)
theorem dX5_type_11 : decode cX5_type 11 = .ok (.goto 18, 3) := dk_167 0 18 (dk_at dksX5_type_0 11 rfl rfl)
theorem dX5_type_14 : decode cX5_type 14 = .ok (.aload_n 0, 1) := dk_42 (dk_at dksX5_type_0 14 rfl rfl)
theorem dX5_type_15 : decode cX5_type 15 = .ok (.getfield 7, 3) := dk_180 0 7 (dk_at dksX5_type_0 15 rfl rfl)
theorem dX5_type_18 : decode cX5_type 18 = .ok (.instanceof 15, 3) := dk_193 0 15 (dk_at dksX5_type_0 18 rfl rfl)
theorem dX5_type_21 : decode cX5_type 21 = .ok (.ifCond .eq 7, 3) := dk_153 0 7 (dk_at dksX5_type_0 21 rfl rfl)
theorem dX5_type_24 : decode cX5_type 24 = .ok (.iconst 1, 1) := dk_4 (dk_at dksX5_type_1 0 rfl rfl)
theorem dX5_type_25 : decode cX5_type 25 = .ok (.goto 4, 3) := dk_167 0 4 (dk_at dksX5_type_1 1 rfl rfl)
theorem dX5_type_28 : decode cX5_type 28 = .ok (.iconst 2, 1) := dk_5 (dk_at dksX5_type_1 4 rfl rfl)
theorem dX5_type_29 : decode cX5_type 29 = .ok (.ireturn, 1) := dk_172 (dk_at dksX5_type_1 5 rfl rfl)
abbrev cX5_item : ByteArray := prog_8_method_4_code
def yX5_item : MethodName := ⟨RX5, "item", "(II)I"⟩
def dkwX5_item_3 : List UInt8 := [192, 0, 21, 28, 46, 172]
abbrev dktX5_item_3 : List UInt8 := dkwX5_item_3 ++ []
def dkwX5_item_2 : List UInt8 := [42, 180, 0, 7, 192, 0, 13, 28, 51, 172, 42, 180, 0, 7, 192, 0, 15, 28, 53, 172, 42, 180, 0, 7]
abbrev dktX5_item_2 : List UInt8 := dkwX5_item_2 ++ dktX5_item_3
def dkwX5_item_1 : List UInt8 := [171, 0, 0, 0, 0, 0, 47, 0, 0, 0, 2, 0, 0, 0, 0, 0, 0, 0, 27, 0, 0, 0, 1, 0, 0, 0, 37]
abbrev dktX5_item_1 : List UInt8 := dkwX5_item_1 ++ dktX5_item_2
def dkwX5_item_0 : List UInt8 := [27]
abbrev dktX5_item_0 : List UInt8 := dkwX5_item_0 ++ dktX5_item_1
theorem dksX5_item_0 : cX5_item.data.toList.drop 0 = dktX5_item_0 := by decide +kernel
theorem dksX5_item_1 : cX5_item.data.toList.drop 1 = dktX5_item_1 := dk_seg dksX5_item_0 1 rfl rfl
theorem dksX5_item_2 : cX5_item.data.toList.drop 28 = dktX5_item_2 := dk_seg dksX5_item_1 27 rfl rfl
theorem dksX5_item_3 : cX5_item.data.toList.drop 52 = dktX5_item_3 := dk_seg dksX5_item_2 24 rfl rfl
theorem dX5_item_0 : decode cX5_item 0 = .ok (.iload_n 1, 1) := dk_27 (dk_at dksX5_item_0 0 rfl rfl)
theorem dX5_item_1 : decode cX5_item 1 = .ok (.lookupswitch 47 #[(0, 27), (1, 37)], 27) := by decide +kernel
theorem dX5_item_28 : decode cX5_item 28 = .ok (.aload_n 0, 1) := dk_42 (dk_at dksX5_item_2 0 rfl rfl)
theorem dX5_item_29 : decode cX5_item 29 = .ok (.getfield 7, 3) := dk_180 0 7 (dk_at dksX5_item_2 1 rfl rfl)
theorem dX5_item_32 : decode cX5_item 32 = .ok (.checkcast 13, 3) := dk_192 0 13 (dk_at dksX5_item_2 4 rfl rfl)
theorem dX5_item_35 : decode cX5_item 35 = .ok (.iload_n 2, 1) := dk_28 (dk_at dksX5_item_2 7 rfl rfl)
theorem dX5_item_36 : decode cX5_item 36 = .ok (.baload, 1) := dk_51 (dk_at dksX5_item_2 8 rfl rfl)
theorem dX5_item_37 : decode cX5_item 37 = .ok (.ireturn, 1) := dk_172 (dk_at dksX5_item_2 9 rfl rfl)
theorem dX5_item_38 : decode cX5_item 38 = .ok (.aload_n 0, 1) := dk_42 (dk_at dksX5_item_2 10 rfl rfl)
theorem dX5_item_39 : decode cX5_item 39 = .ok (.getfield 7, 3) := dk_180 0 7 (dk_at dksX5_item_2 11 rfl rfl)
theorem dX5_item_42 : decode cX5_item 42 = .ok (.checkcast 15, 3) := dk_192 0 15 (dk_at dksX5_item_2 14 rfl rfl)
theorem dX5_item_45 : decode cX5_item 45 = .ok (.iload_n 2, 1) := dk_28 (dk_at dksX5_item_2 17 rfl rfl)
theorem dX5_item_46 : decode cX5_item 46 = .ok (.saload, 1) := dk_53 (dk_at dksX5_item_2 18 rfl rfl)
theorem dX5_item_47 : decode cX5_item 47 = .ok (.ireturn, 1) := dk_172 (dk_at dksX5_item_2 19 rfl rfl)
theorem dX5_item_48 : decode cX5_item 48 = .ok (.aload_n 0, 1) := dk_42 (dk_at dksX5_item_2 20 rfl rfl)
theorem dX5_item_49 : decode cX5_item 49 = .ok (.getfield 7, 3) := dk_180 0 7 (dk_at dksX5_item_2 21 rfl rfl)
theorem dX5_item_52 : decode cX5_item 52 = .ok (.checkcast 21, 3) := dk_192 0 21 (dk_at dksX5_item_3 0 rfl rfl)
theorem dX5_item_55 : decode cX5_item 55 = .ok (.iload_n 2, 1) := dk_28 (dk_at dksX5_item_3 3 rfl rfl)
theorem dX5_item_56 : decode cX5_item 56 = .ok (.iaload, 1) := dk_46 (dk_at dksX5_item_3 4 rfl rfl)
theorem dX5_item_57 : decode cX5_item 57 = .ok (.ireturn, 1) := dk_172 (dk_at dksX5_item_3 5 rfl rfl)
abbrev cX5_lay : ByteArray := prog_8_method_5_code
def yX5_lay : MethodName := ⟨RX5, "lay", "(III)V"⟩
def dkwX5_lay_3 : List UInt8 := [86, 167, 0, 13, 42, 180, 0, 7, 192, 0, 21, 28, 29, 79, 177]
abbrev dktX5_lay_3 : List UInt8 := dkwX5_lay_3 ++ []
def dkwX5_lay_2 : List UInt8 := [42, 180, 0, 7, 192, 0, 13, 28, 29, 145, 84, 167, 0, 27, 42, 180, 0, 7, 192, 0, 15, 28, 29, 147]
abbrev dktX5_lay_2 : List UInt8 := dkwX5_lay_2 ++ dktX5_lay_3
def dkwX5_lay_1 : List UInt8 := [171, 0, 0, 0, 0, 0, 55, 0, 0, 0, 2, 0, 0, 0, 0, 0, 0, 0, 27, 0, 0, 0, 1, 0, 0, 0, 41]
abbrev dktX5_lay_1 : List UInt8 := dkwX5_lay_1 ++ dktX5_lay_2
def dkwX5_lay_0 : List UInt8 := [27]
abbrev dktX5_lay_0 : List UInt8 := dkwX5_lay_0 ++ dktX5_lay_1
theorem dksX5_lay_0 : cX5_lay.data.toList.drop 0 = dktX5_lay_0 := by decide +kernel
theorem dksX5_lay_1 : cX5_lay.data.toList.drop 1 = dktX5_lay_1 := dk_seg dksX5_lay_0 1 rfl rfl
theorem dksX5_lay_2 : cX5_lay.data.toList.drop 28 = dktX5_lay_2 := dk_seg dksX5_lay_1 27 rfl rfl
theorem dksX5_lay_3 : cX5_lay.data.toList.drop 52 = dktX5_lay_3 := dk_seg dksX5_lay_2 24 rfl rfl
theorem dX5_lay_0 : decode cX5_lay 0 = .ok (.iload_n 1, 1) := dk_27 (dk_at dksX5_lay_0 0 rfl rfl)
theorem dX5_lay_1 : decode cX5_lay 1 = .ok (.lookupswitch 55 #[(0, 27), (1, 41)], 27) := by decide +kernel
theorem dX5_lay_28 : decode cX5_lay 28 = .ok (.aload_n 0, 1) := dk_42 (dk_at dksX5_lay_2 0 rfl rfl)
theorem dX5_lay_29 : decode cX5_lay 29 = .ok (.getfield 7, 3) := dk_180 0 7 (dk_at dksX5_lay_2 1 rfl rfl)
theorem dX5_lay_32 : decode cX5_lay 32 = .ok (.checkcast 13, 3) := dk_192 0 13 (dk_at dksX5_lay_2 4 rfl rfl)
theorem dX5_lay_35 : decode cX5_lay 35 = .ok (.iload_n 2, 1) := dk_28 (dk_at dksX5_lay_2 7 rfl rfl)
theorem dX5_lay_36 : decode cX5_lay 36 = .ok (.iload_n 3, 1) := dk_29 (dk_at dksX5_lay_2 8 rfl rfl)
theorem dX5_lay_37 : decode cX5_lay 37 = .ok (.i2b, 1) := dk_145 (dk_at dksX5_lay_2 9 rfl rfl)
theorem dX5_lay_38 : decode cX5_lay 38 = .ok (.bastore, 1) := dk_84 (dk_at dksX5_lay_2 10 rfl rfl)
theorem dX5_lay_39 : decode cX5_lay 39 = .ok (.goto 27, 3) := dk_167 0 27 (dk_at dksX5_lay_2 11 rfl rfl)
theorem dX5_lay_42 : decode cX5_lay 42 = .ok (.aload_n 0, 1) := dk_42 (dk_at dksX5_lay_2 14 rfl rfl)
theorem dX5_lay_43 : decode cX5_lay 43 = .ok (.getfield 7, 3) := dk_180 0 7 (dk_at dksX5_lay_2 15 rfl rfl)
theorem dX5_lay_46 : decode cX5_lay 46 = .ok (.checkcast 15, 3) := dk_192 0 15 (dk_at dksX5_lay_2 18 rfl rfl)
theorem dX5_lay_49 : decode cX5_lay 49 = .ok (.iload_n 2, 1) := dk_28 (dk_at dksX5_lay_2 21 rfl rfl)
theorem dX5_lay_50 : decode cX5_lay 50 = .ok (.iload_n 3, 1) := dk_29 (dk_at dksX5_lay_2 22 rfl rfl)
theorem dX5_lay_51 : decode cX5_lay 51 = .ok (.i2s, 1) := dk_147 (dk_at dksX5_lay_2 23 rfl rfl)
theorem dX5_lay_52 : decode cX5_lay 52 = .ok (.sastore, 1) := dk_86 (dk_at dksX5_lay_3 0 rfl rfl)
theorem dX5_lay_53 : decode cX5_lay 53 = .ok (.goto 13, 3) := dk_167 0 13 (dk_at dksX5_lay_3 1 rfl rfl)
theorem dX5_lay_56 : decode cX5_lay 56 = .ok (.aload_n 0, 1) := dk_42 (dk_at dksX5_lay_3 4 rfl rfl)
theorem dX5_lay_57 : decode cX5_lay 57 = .ok (.getfield 7, 3) := dk_180 0 7 (dk_at dksX5_lay_3 5 rfl rfl)
theorem dX5_lay_60 : decode cX5_lay 60 = .ok (.checkcast 21, 3) := dk_192 0 21 (dk_at dksX5_lay_3 8 rfl rfl)
theorem dX5_lay_63 : decode cX5_lay 63 = .ok (.iload_n 2, 1) := dk_28 (dk_at dksX5_lay_3 11 rfl rfl)
theorem dX5_lay_64 : decode cX5_lay 64 = .ok (.iload_n 3, 1) := dk_29 (dk_at dksX5_lay_3 12 rfl rfl)
theorem dX5_lay_65 : decode cX5_lay 65 = .ok (.iastore, 1) := dk_79 (dk_at dksX5_lay_3 13 rfl rfl)
theorem dX5_lay_66 : decode cX5_lay 66 = .ok (.return_, 1) := dk_177 (dk_at dksX5_lay_3 14 rfl rfl)
theorem q88 : (Jvm.Cond.initialized "InterestTaken$Sheet") ∈ lw_all := lw_g (lw_at lw_m1 9 rfl) rfl
theorem q215 : (Jvm.Cond.instantiable "InterestTaken$Sheet" (1 : Nat)) ∈ lw_all := lw_g (lw_at lw_m1 136 rfl) rfl
theorem q217 : (Jvm.Cond.instanceMethod ({ cls := "InterestTaken$Sheet", name := "<init>", desc := "()V" } : Jvm.MethodName)) ∈ lw_all := lw_g (lw_at lw_m1 138 rfl) rfl
theorem q218 : (Jvm.Cond.code ({ cls := "InterestTaken$Sheet", name := "<init>", desc := "()V" } : Jvm.MethodName) prog_8_method_1_code (1 : Nat) (Option.none : Option Jvm.ClassFile.FieldType)) ∈ lw_all := lw_g (lw_at lw_m1 139 rfl) rfl
theorem q219 : (Jvm.Cond.methodLink "InterestTaken$Sheet" (1 : Nat) ({ cls := "java/lang/Object", name := "<init>", desc := "()V" } : Jvm.MethodName)) ∈ lw_all := lw_g (lw_at lw_m1 140 rfl) rfl
theorem q220 : (Jvm.Cond.fieldLink "InterestTaken$Sheet" (7 : Nat) "InterestTaken$Sheet" "row" "Ljava/lang/Object;") ∈ lw_all := lw_g (lw_at lw_m1 141 rfl) rfl
theorem q222 : (Jvm.Cond.lays "InterestTaken$Sheet" "InterestTaken$Sheet" "row" "Ljava/lang/Object;") ∈ lw_all := lw_g (lw_at lw_m1 143 rfl) rfl
theorem q223 : (Jvm.Cond.soleField "InterestTaken$Sheet" "row") ∈ lw_all := lw_g (lw_at lw_m1 144 rfl) rfl
theorem q224 : (Jvm.Cond.superclass "InterestTaken$Sheet" "java/lang/Object") ∈ lw_all := lw_g (lw_at lw_m1 145 rfl) rfl
theorem q629 : (Jvm.Cond.selects "InterestTaken$Sheet" ({ cls := "java/lang/Object", name := "getClass", desc := "()Ljava/lang/Class;" } : Jvm.MethodName) ({ cls := "java/lang/Object", name := "getClass", desc := "()Ljava/lang/Class;" } : Jvm.MethodName)) ∈ lw_all := lw_g (lw_at lw_m3 70 rfl) rfl
theorem q763 : (Jvm.Cond.instanceMethod ({ cls := "InterestTaken$Sheet", name := "size", desc := "()I" } : Jvm.MethodName)) ∈ lw_all := lw_g (lw_at lw_m3 204 rfl) rfl
theorem q764 : (Jvm.Cond.selects "InterestTaken$Sheet" ({ cls := "InterestTaken$Sheet", name := "size", desc := "()I" } : Jvm.MethodName) ({ cls := "InterestTaken$Sheet", name := "size", desc := "()I" } : Jvm.MethodName)) ∈ lw_all := lw_g (lw_at lw_m3 205 rfl) rfl
theorem q765 : (Jvm.Cond.code ({ cls := "InterestTaken$Sheet", name := "size", desc := "()I" } : Jvm.MethodName) prog_8_method_3_code (1 : Nat) (Option.some Jvm.ClassFile.FieldType.int)) ∈ lw_all := lw_g (lw_at lw_m3 206 rfl) rfl
theorem q766 : (Jvm.Cond.methodLink "InterestTaken$Sheet" (17 : Nat) ({ cls := "InterestTaken$Sheet", name := "type", desc := "()I" } : Jvm.MethodName)) ∈ lw_all := lw_g (lw_at lw_m3 207 rfl) rfl
theorem q767 : (Jvm.Cond.instanceMethod ({ cls := "InterestTaken$Sheet", name := "type", desc := "()I" } : Jvm.MethodName)) ∈ lw_all := lw_g (lw_at lw_m3 208 rfl) rfl
theorem q768 : (Jvm.Cond.selects "InterestTaken$Sheet" ({ cls := "InterestTaken$Sheet", name := "type", desc := "()I" } : Jvm.MethodName) ({ cls := "InterestTaken$Sheet", name := "type", desc := "()I" } : Jvm.MethodName)) ∈ lw_all := lw_g (lw_at lw_m3 209 rfl) rfl
theorem q769 : (Jvm.Cond.code ({ cls := "InterestTaken$Sheet", name := "type", desc := "()I" } : Jvm.MethodName) prog_8_method_2_code (1 : Nat) (Option.some Jvm.ClassFile.FieldType.int)) ∈ lw_all := lw_g (lw_at lw_m3 210 rfl) rfl
theorem q770 : (Jvm.Cond.classLink "InterestTaken$Sheet" (13 : Nat) "[B") ∈ lw_all := lw_g (lw_at lw_m3 211 rfl) rfl
theorem q771 : (Jvm.Cond.classLink "InterestTaken$Sheet" (15 : Nat) "[S") ∈ lw_all := lw_g (lw_at lw_m3 212 rfl) rfl
theorem q772 : (Jvm.Cond.classLink "InterestTaken$Sheet" (21 : Nat) "[I") ∈ lw_all := lw_g (lw_at lw_m3 213 rfl) rfl
theorem q775 : (Jvm.Cond.instanceMethod ({ cls := "InterestTaken$Sheet", name := "item", desc := "(II)I" } : Jvm.MethodName)) ∈ lw_all := lw_g (lw_at lw_m3 216 rfl) rfl
theorem q776 : (Jvm.Cond.selects "InterestTaken$Sheet" ({ cls := "InterestTaken$Sheet", name := "item", desc := "(II)I" } : Jvm.MethodName) ({ cls := "InterestTaken$Sheet", name := "item", desc := "(II)I" } : Jvm.MethodName)) ∈ lw_all := lw_g (lw_at lw_m3 217 rfl) rfl
theorem q777 : (Jvm.Cond.code ({ cls := "InterestTaken$Sheet", name := "item", desc := "(II)I" } : Jvm.MethodName) prog_8_method_4_code (3 : Nat) (Option.some Jvm.ClassFile.FieldType.int)) ∈ lw_all := lw_g (lw_at lw_m3 218 rfl) rfl
theorem q1086 : (Jvm.Cond.instanceMethod ({ cls := "InterestTaken$Sheet", name := "lay", desc := "(III)V" } : Jvm.MethodName)) ∈ lw_all := lw_g (lw_at lw_m5 47 rfl) rfl
theorem q1087 : (Jvm.Cond.selects "InterestTaken$Sheet" ({ cls := "InterestTaken$Sheet", name := "lay", desc := "(III)V" } : Jvm.MethodName) ({ cls := "InterestTaken$Sheet", name := "lay", desc := "(III)V" } : Jvm.MethodName)) ∈ lw_all := lw_g (lw_at lw_m5 48 rfl) rfl
theorem q1088 : (Jvm.Cond.code ({ cls := "InterestTaken$Sheet", name := "lay", desc := "(III)V" } : Jvm.MethodName) prog_8_method_5_code (4 : Nat) (Option.none : Option Jvm.ClassFile.FieldType)) ∈ lw_all := lw_g (lw_at lw_m5 49 rfl) rfl
theorem q1617 : (Jvm.Cond.castable "InterestTaken$Sheet" "java/lang/Object") ∈ lw_tbl := lw_at lw_m7 98 rfl
theorem in_X5 : ∀ w ∈ wsX50, w ∈ lw_all := lw_in wsX50 [222] (by decide +kernel) (by decide +kernel)

/-! InterestTaken$Torn -/
set_option maxRecDepth 100000
def RX7 : String := "InterestTaken$Torn"
def TX7 : u_T := fun k => match k with
  | 0 => ("java/lang/Throwable", "cause", "Ljava/lang/Throwable;", false)
  | 1 => ("java/lang/Throwable", "stackTrace", "[Ljava/lang/StackTraceElement;", false)
  | 2 => ("java/lang/Throwable", "suppressedExceptions", "Ljava/util/List;", false)
  | 3 => ("java/lang/Throwable", "detailMessage", "Ljava/lang/String;", false)
  | 4 => ("java/lang/Throwable", "backtrace", "Ljava/lang/Object;", false)
  | 5 => ("java/lang/Throwable", "depth", "I", false)
  | _ => ("InterestTaken$Torn", "place", "I", true)
def tyX7 : Nat → FieldType := fun k => match k with
  | 0 => .object "java/lang/Throwable"
  | 1 => .array (.object "java/lang/StackTraceElement")
  | 2 => .object "java/util/List"
  | 3 => .object "java/lang/String"
  | 4 => .object "java/lang/Object"
  | 5 => .int
  | _ => .int
abbrev wsX70 : List Cond := u_ws RX7 TX7 7
theorem nmX7 : ∀ a, a < 7 → ∀ b, b < 7 → a ≠ b → (TX7 a).2.1 ≠ (TX7 b).2.1 := by decide +kernel
theorem tyX7_ok : ∀ k, k < 7 → parseFieldDescriptor (TX7 k).2.2.1 = some (tyX7 k) := by decide +kernel
abbrev cX7_init : ByteArray := prog_10_method_1_code
def yX7_init : MethodName := ⟨RX7, "<init>", "(I)V"⟩
def dkwX7_init_0 : List UInt8 := [42, 1, 1, 3, 3, 183, 0, 1, 42, 27, 181, 0, 7, 177]
abbrev dktX7_init_0 : List UInt8 := dkwX7_init_0 ++ []
theorem dksX7_init_0 : cX7_init.data.toList.drop 0 = dktX7_init_0 := by decide +kernel
theorem dX7_init_0 : decode cX7_init 0 = .ok (.aload_n 0, 1) := dk_42 (dk_at dksX7_init_0 0 rfl rfl)
theorem dX7_init_1 : decode cX7_init 1 = .ok (.aconst_null, 1) := dk_1 (dk_at dksX7_init_0 1 rfl rfl)
theorem dX7_init_2 : decode cX7_init 2 = .ok (.aconst_null, 1) := dk_1 (dk_at dksX7_init_0 2 rfl rfl)
theorem dX7_init_3 : decode cX7_init 3 = .ok (.iconst 0, 1) := dk_3 (dk_at dksX7_init_0 3 rfl rfl)
theorem dX7_init_4 : decode cX7_init 4 = .ok (.iconst 0, 1) := dk_3 (dk_at dksX7_init_0 4 rfl rfl)
theorem dX7_init_5 : decode cX7_init 5 = .ok (.invokespecial 1, 3) := dk_183 0 1 (dk_at dksX7_init_0 5 rfl rfl)
theorem dX7_init_8 : decode cX7_init 8 = .ok (.aload_n 0, 1) := dk_42 (dk_at dksX7_init_0 8 rfl rfl)
theorem dX7_init_9 : decode cX7_init 9 = .ok (.iload_n 1, 1) := dk_27 (dk_at dksX7_init_0 9 rfl rfl)
theorem dX7_init_10 : decode cX7_init 10 = .ok (.putfield 7, 3) := dk_181 0 7 (dk_at dksX7_init_0 10 rfl rfl)
theorem dX7_init_13 : decode cX7_init 13 = .ok (.return_, 1) := dk_177 (dk_at dksX7_init_0 13 rfl rfl)
theorem q92 : (Jvm.Cond.initialized "InterestTaken$Torn") ∈ lw_all := lw_g (lw_at lw_m1 13 rfl) rfl
theorem q370 : (Jvm.Cond.instantiable "InterestTaken$Torn" (7 : Nat)) ∈ lw_all := lw_g (lw_at lw_m2 51 rfl) rfl
theorem q371 : (Jvm.Cond.castable "InterestTaken$Torn" "InterestTaken$Torn") ∈ lw_tbl := lw_at lw_m2 52 rfl
theorem q376 : (Jvm.Cond.selects "InterestTaken$Torn" ({ cls := "java/lang/Throwable", name := "fillInStackTrace", desc := "(I)Ljava/lang/Throwable;" } : Jvm.MethodName) ({ cls := "java/lang/Throwable", name := "fillInStackTrace", desc := "(I)Ljava/lang/Throwable;" } : Jvm.MethodName)) ∈ lw_all := lw_g (lw_at lw_m2 57 rfl) rfl
theorem q377 : (Jvm.Cond.selects "InterestTaken$Torn" ({ cls := "java/lang/Throwable", name := "fillInStackTrace", desc := "()Ljava/lang/Throwable;" } : Jvm.MethodName) ({ cls := "java/lang/Throwable", name := "fillInStackTrace", desc := "()Ljava/lang/Throwable;" } : Jvm.MethodName)) ∈ lw_all := lw_g (lw_at lw_m2 58 rfl) rfl
theorem q378 : (Jvm.Cond.lays "InterestTaken$Torn" "java/lang/Throwable" "cause" "Ljava/lang/Throwable;") ∈ lw_all := lw_g (lw_at lw_m2 59 rfl) rfl
theorem q380 : (Jvm.Cond.lays "InterestTaken$Torn" "java/lang/Throwable" "stackTrace" "[Ljava/lang/StackTraceElement;") ∈ lw_all := lw_g (lw_at lw_m2 61 rfl) rfl
theorem q382 : (Jvm.Cond.lays "InterestTaken$Torn" "java/lang/Throwable" "suppressedExceptions" "Ljava/util/List;") ∈ lw_all := lw_g (lw_at lw_m2 63 rfl) rfl
theorem q384 : (Jvm.Cond.lays "InterestTaken$Torn" "java/lang/Throwable" "detailMessage" "Ljava/lang/String;") ∈ lw_all := lw_g (lw_at lw_m2 65 rfl) rfl
theorem q386 : (Jvm.Cond.lays "InterestTaken$Torn" "java/lang/Throwable" "backtrace" "Ljava/lang/Object;") ∈ lw_all := lw_g (lw_at lw_m2 67 rfl) rfl
theorem q410 : (Jvm.Cond.instanceMethod ({ cls := "InterestTaken$Torn", name := "<init>", desc := "(I)V" } : Jvm.MethodName)) ∈ lw_all := lw_g (lw_at lw_m2 91 rfl) rfl
theorem q411 : (Jvm.Cond.code ({ cls := "InterestTaken$Torn", name := "<init>", desc := "(I)V" } : Jvm.MethodName) prog_10_method_1_code (2 : Nat) (Option.none : Option Jvm.ClassFile.FieldType)) ∈ lw_all := lw_g (lw_at lw_m2 92 rfl) rfl
theorem q412 : (Jvm.Cond.methodLink "InterestTaken$Torn" (1 : Nat) ({ cls := "java/lang/Exception", name := "<init>", desc := "(Ljava/lang/String;Ljava/lang/Throwable;ZZ)V" } : Jvm.MethodName)) ∈ lw_all := lw_g (lw_at lw_m2 93 rfl) rfl
theorem q418 : (Jvm.Cond.fieldLink "InterestTaken$Torn" (7 : Nat) "InterestTaken$Torn" "place" "I") ∈ lw_all := lw_g (lw_at lw_m2 99 rfl) rfl
theorem q425 : (Jvm.Cond.laysFinal "InterestTaken$Torn" "InterestTaken$Torn" "place" "I") ∈ lw_all := lw_g (lw_at lw_m2 106 rfl) rfl
theorem q426 : (Jvm.Cond.soleField "InterestTaken$Torn" "place") ∈ lw_all := lw_g (lw_at lw_m2 107 rfl) rfl
theorem q431 : (Jvm.Cond.lays "InterestTaken$Torn" "java/lang/Throwable" "depth" "I") ∈ lw_all := lw_g (lw_at lw_m2 112 rfl) rfl
theorem q434 : (Jvm.Cond.superclass "InterestTaken$Torn" "java/lang/Exception") ∈ lw_all := lw_g (lw_at lw_m2 115 rfl) rfl
theorem q630 : (Jvm.Cond.selects "InterestTaken$Torn" ({ cls := "java/lang/Object", name := "getClass", desc := "()Ljava/lang/Class;" } : Jvm.MethodName) ({ cls := "java/lang/Object", name := "getClass", desc := "()Ljava/lang/Class;" } : Jvm.MethodName)) ∈ lw_all := lw_g (lw_at lw_m3 71 rfl) rfl
theorem q1625 : (Jvm.Cond.castable "InterestTaken$Torn" "java/lang/Object") ∈ lw_tbl := lw_at lw_m7 106 rfl
theorem in_X7 : ∀ w ∈ wsX70, w ∈ lw_all := lw_in wsX70 [378, 380, 382, 384, 386, 431, 425] (by decide +kernel) (by decide +kernel)

/-! InterestTaken$Saver -/
set_option maxRecDepth 100000
def RX8 : String := "InterestTaken$Saver"
def TX8 : u_T := fun k => match k with
  | 0 => ("InterestTaken$Saver", "sum", "I", false)
  | 1 => ("InterestTaken$Saver", "way", "LInterestTaken$Way;", true)
  | _ => ("InterestTaken$Saver", "topic", "I", true)
def tyX8 : Nat → FieldType := fun k => match k with
  | 0 => .int
  | 1 => .object "InterestTaken$Way"
  | _ => .int
abbrev wsX80 : List Cond := u_ws RX8 TX8 3
theorem nmX8 : ∀ a, a < 3 → ∀ b, b < 3 → a ≠ b → (TX8 a).2.1 ≠ (TX8 b).2.1 := by decide +kernel
theorem tyX8_ok : ∀ k, k < 3 → parseFieldDescriptor (TX8 k).2.2.1 = some (tyX8 k) := by decide +kernel
abbrev cX8_init : ByteArray := prog_6_method_1_code
def yX8_init : MethodName := ⟨RX8, "<init>", "(ILInterestTaken$Way;I)V"⟩
def dkwX8_init_0 : List UInt8 := [42, 183, 0, 1, 42, 27, 181, 0, 7, 42, 44, 181, 0, 13, 42, 29, 181, 0, 17, 177]
abbrev dktX8_init_0 : List UInt8 := dkwX8_init_0 ++ []
theorem dksX8_init_0 : cX8_init.data.toList.drop 0 = dktX8_init_0 := by decide +kernel
theorem dX8_init_0 : decode cX8_init 0 = .ok (.aload_n 0, 1) := dk_42 (dk_at dksX8_init_0 0 rfl rfl)
theorem dX8_init_1 : decode cX8_init 1 = .ok (.invokespecial 1, 3) := dk_183 0 1 (dk_at dksX8_init_0 1 rfl rfl)
theorem dX8_init_4 : decode cX8_init 4 = .ok (.aload_n 0, 1) := dk_42 (dk_at dksX8_init_0 4 rfl rfl)
theorem dX8_init_5 : decode cX8_init 5 = .ok (.iload_n 1, 1) := dk_27 (dk_at dksX8_init_0 5 rfl rfl)
theorem dX8_init_6 : decode cX8_init 6 = .ok (.putfield 7, 3) := dk_181 0 7 (dk_at dksX8_init_0 6 rfl rfl)
theorem dX8_init_9 : decode cX8_init 9 = .ok (.aload_n 0, 1) := dk_42 (dk_at dksX8_init_0 9 rfl rfl)
theorem dX8_init_10 : decode cX8_init 10 = .ok (.aload_n 2, 1) := dk_44 (dk_at dksX8_init_0 10 rfl rfl)
theorem dX8_init_11 : decode cX8_init 11 = .ok (.putfield 13, 3) := dk_181 0 13 (dk_at dksX8_init_0 11 rfl rfl)
theorem dX8_init_14 : decode cX8_init 14 = .ok (.aload_n 0, 1) := dk_42 (dk_at dksX8_init_0 14 rfl rfl)
theorem dX8_init_15 : decode cX8_init 15 = .ok (.iload_n 3, 1) := dk_29 (dk_at dksX8_init_0 15 rfl rfl)
theorem dX8_init_16 : decode cX8_init 16 = .ok (.putfield 17, 3) := dk_181 0 17 (dk_at dksX8_init_0 16 rfl rfl)
theorem dX8_init_19 : decode cX8_init 19 = .ok (.return_, 1) := dk_177 (dk_at dksX8_init_0 19 rfl rfl)
abbrev cX8_by : ByteArray := prog_6_method_2_code
def yX8_by : MethodName := ⟨RX8, "by", "(I)I"⟩
def dkwX8_by_1 : List UInt8 := [167, 0, 7, 42, 180, 0, 17, 172]
abbrev dktX8_by_1 : List UInt8 := dkwX8_by_1 ++ []
def dkwX8_by_0 : List UInt8 := [27, 154, 0, 10, 42, 180, 0, 7, 167, 0, 22, 27, 4, 160, 0, 13, 42, 180, 0, 13, 182, 0, 20]
abbrev dktX8_by_0 : List UInt8 := dkwX8_by_0 ++ dktX8_by_1
theorem dksX8_by_0 : cX8_by.data.toList.drop 0 = dktX8_by_0 := by decide +kernel
theorem dksX8_by_1 : cX8_by.data.toList.drop 23 = dktX8_by_1 := dk_seg dksX8_by_0 23 rfl rfl
theorem dX8_by_0 : decode cX8_by 0 = .ok (.iload_n 1, 1) := dk_27 (dk_at dksX8_by_0 0 rfl rfl)
theorem dX8_by_1 : decode cX8_by 1 = .ok (.ifCond .ne 10, 3) := dk_154 0 10 (dk_at dksX8_by_0 1 rfl rfl)
theorem dX8_by_4 : decode cX8_by 4 = .ok (.aload_n 0, 1) := dk_42 (dk_at dksX8_by_0 4 rfl rfl)
theorem dX8_by_5 : decode cX8_by 5 = .ok (.getfield 7, 3) := dk_180 0 7 (dk_at dksX8_by_0 5 rfl rfl)
theorem dX8_by_8 : decode cX8_by 8 = .ok (.goto 22, 3) := dk_167 0 22 (dk_at dksX8_by_0 8 rfl rfl)
theorem dX8_by_11 : decode cX8_by 11 = .ok (.iload_n 1, 1) := dk_27 (dk_at dksX8_by_0 11 rfl rfl)
theorem dX8_by_12 : decode cX8_by 12 = .ok (.iconst 1, 1) := dk_4 (dk_at dksX8_by_0 12 rfl rfl)
theorem dX8_by_13 : decode cX8_by 13 = .ok (.if_icmp .ne 13, 3) := dk_160 0 13 (dk_at dksX8_by_0 13 rfl rfl)
theorem dX8_by_16 : decode cX8_by 16 = .ok (.aload_n 0, 1) := dk_42 (dk_at dksX8_by_0 16 rfl rfl)
theorem dX8_by_17 : decode cX8_by 17 = .ok (.getfield 13, 3) := dk_180 0 13 (dk_at dksX8_by_0 17 rfl rfl)
theorem dX8_by_20 : decode cX8_by 20 = .ok (.invokevirtual 20, 3) := dk_182 0 20 (dk_at dksX8_by_0 20 rfl rfl)
theorem dX8_by_23 : decode cX8_by 23 = .ok (.goto 7, 3) := dk_167 0 7 (dk_at dksX8_by_1 0 rfl rfl)
theorem dX8_by_26 : decode cX8_by 26 = .ok (.aload_n 0, 1) := dk_42 (dk_at dksX8_by_1 3 rfl rfl)
theorem dX8_by_27 : decode cX8_by 27 = .ok (.getfield 17, 3) := dk_180 0 17 (dk_at dksX8_by_1 4 rfl rfl)
theorem dX8_by_30 : decode cX8_by 30 = .ok (.ireturn, 1) := dk_172 (dk_at dksX8_by_1 7 rfl rfl)
theorem q99 : (Jvm.Cond.initialized "InterestTaken$Saver") ∈ lw_all := lw_g (lw_at lw_m1 20 rfl) rfl
theorem q571 : (Jvm.Cond.instantiable "InterestTaken$Saver" (3 : Nat)) ∈ lw_all := lw_g (lw_at lw_m3 12 rfl) rfl
theorem q576 : (Jvm.Cond.instanceMethod ({ cls := "InterestTaken$Saver", name := "<init>", desc := "(ILInterestTaken$Way;I)V" } : Jvm.MethodName)) ∈ lw_all := lw_g (lw_at lw_m3 17 rfl) rfl
theorem q577 : (Jvm.Cond.code ({ cls := "InterestTaken$Saver", name := "<init>", desc := "(ILInterestTaken$Way;I)V" } : Jvm.MethodName) prog_6_method_1_code (4 : Nat) (Option.none : Option Jvm.ClassFile.FieldType)) ∈ lw_all := lw_g (lw_at lw_m3 18 rfl) rfl
theorem q578 : (Jvm.Cond.methodLink "InterestTaken$Saver" (1 : Nat) ({ cls := "java/lang/Object", name := "<init>", desc := "()V" } : Jvm.MethodName)) ∈ lw_all := lw_g (lw_at lw_m3 19 rfl) rfl
theorem q579 : (Jvm.Cond.fieldLink "InterestTaken$Saver" (7 : Nat) "InterestTaken$Saver" "sum" "I") ∈ lw_all := lw_g (lw_at lw_m3 20 rfl) rfl
theorem q581 : (Jvm.Cond.fieldLink "InterestTaken$Saver" (13 : Nat) "InterestTaken$Saver" "way" "LInterestTaken$Way;") ∈ lw_all := lw_g (lw_at lw_m3 22 rfl) rfl
theorem q583 : (Jvm.Cond.fieldLink "InterestTaken$Saver" (17 : Nat) "InterestTaken$Saver" "topic" "I") ∈ lw_all := lw_g (lw_at lw_m3 24 rfl) rfl
theorem q585 : (Jvm.Cond.lays "InterestTaken$Saver" "InterestTaken$Saver" "sum" "I") ∈ lw_all := lw_g (lw_at lw_m3 26 rfl) rfl
theorem q586 : (Jvm.Cond.soleField "InterestTaken$Saver" "sum") ∈ lw_all := lw_g (lw_at lw_m3 27 rfl) rfl
theorem q587 : (Jvm.Cond.laysFinal "InterestTaken$Saver" "InterestTaken$Saver" "way" "LInterestTaken$Way;") ∈ lw_all := lw_g (lw_at lw_m3 28 rfl) rfl
theorem q588 : (Jvm.Cond.soleField "InterestTaken$Saver" "way") ∈ lw_all := lw_g (lw_at lw_m3 29 rfl) rfl
theorem q589 : (Jvm.Cond.laysFinal "InterestTaken$Saver" "InterestTaken$Saver" "topic" "I") ∈ lw_all := lw_g (lw_at lw_m3 30 rfl) rfl
theorem q590 : (Jvm.Cond.soleField "InterestTaken$Saver" "topic") ∈ lw_all := lw_g (lw_at lw_m3 31 rfl) rfl
theorem q591 : (Jvm.Cond.superclass "InterestTaken$Saver" "java/lang/Object") ∈ lw_all := lw_g (lw_at lw_m3 32 rfl) rfl
theorem q627 : (Jvm.Cond.selects "InterestTaken$Saver" ({ cls := "java/lang/Object", name := "getClass", desc := "()Ljava/lang/Class;" } : Jvm.MethodName) ({ cls := "java/lang/Object", name := "getClass", desc := "()Ljava/lang/Class;" } : Jvm.MethodName)) ∈ lw_all := lw_g (lw_at lw_m3 68 rfl) rfl
theorem q684 : (Jvm.Cond.instanceMethod ({ cls := "InterestTaken$Saver", name := "by", desc := "(I)I" } : Jvm.MethodName)) ∈ lw_all := lw_g (lw_at lw_m3 125 rfl) rfl
theorem q685 : (Jvm.Cond.selects "InterestTaken$Saver" ({ cls := "InterestTaken$Saver", name := "by", desc := "(I)I" } : Jvm.MethodName) ({ cls := "InterestTaken$Saver", name := "by", desc := "(I)I" } : Jvm.MethodName)) ∈ lw_all := lw_g (lw_at lw_m3 126 rfl) rfl
theorem q686 : (Jvm.Cond.code ({ cls := "InterestTaken$Saver", name := "by", desc := "(I)I" } : Jvm.MethodName) prog_6_method_2_code (2 : Nat) (Option.some Jvm.ClassFile.FieldType.int)) ∈ lw_all := lw_g (lw_at lw_m3 127 rfl) rfl
theorem q687 : (Jvm.Cond.methodLink "InterestTaken$Saver" (20 : Nat) ({ cls := "InterestTaken$Way", name := "number", desc := "()I" } : Jvm.MethodName)) ∈ lw_all := lw_g (lw_at lw_m3 128 rfl) rfl
theorem q1627 : (Jvm.Cond.castable "InterestTaken$Saver" "java/lang/Object") ∈ lw_tbl := lw_at lw_m7 108 rfl
theorem in_X8 : ∀ w ∈ wsX80, w ∈ lw_all := lw_in wsX80 [585, 587, 589] (by decide +kernel) (by decide +kernel)

/-! InterestTaken$Ear -/
set_option maxRecDepth 100000
def RX9 : String := "InterestTaken$Ear"
abbrev cX9_hears : ByteArray := prog_3_method_2_code
def yX9_hears : MethodName := ⟨RX9, "hears", "(II)I"⟩
def dkwX9_hears_0 : List UInt8 := [27, 28, 184, 0, 7, 172]
abbrev dktX9_hears_0 : List UInt8 := dkwX9_hears_0 ++ []
theorem dksX9_hears_0 : cX9_hears.data.toList.drop 0 = dktX9_hears_0 := by decide +kernel
theorem dX9_hears_0 : decode cX9_hears 0 = .ok (.iload_n 1, 1) := dk_27 (dk_at dksX9_hears_0 0 rfl rfl)
theorem dX9_hears_1 : decode cX9_hears 1 = .ok (.iload_n 2, 1) := dk_28 (dk_at dksX9_hears_0 1 rfl rfl)
theorem dX9_hears_2 : decode cX9_hears 2 = .ok (.invokestatic 7, 3) := dk_184 0 7 (dk_at dksX9_hears_0 2 rfl rfl)
theorem dX9_hears_5 : decode cX9_hears 5 = .ok (.ireturn, 1) := dk_172 (dk_at dksX9_hears_0 5 rfl rfl)
abbrev cX9_takes : ByteArray := prog_3_method_3_code
def yX9_takes : MethodName := ⟨RX9, "takes", "(I)I"⟩
theorem dX9_takes_0 : decode cX9_takes 0 = .ok (.iload_n 1, 1) := by decide +kernel
theorem dX9_takes_1 : decode cX9_takes 1 = .ok (.ireturn, 1) := by decide +kernel
theorem q624 : (Jvm.Cond.selects "InterestTaken$Ear" ({ cls := "java/lang/Object", name := "getClass", desc := "()Ljava/lang/Class;" } : Jvm.MethodName) ({ cls := "java/lang/Object", name := "getClass", desc := "()Ljava/lang/Class;" } : Jvm.MethodName)) ∈ lw_all := lw_g (lw_at lw_m3 65 rfl) rfl
theorem q831 : (Jvm.Cond.instanceMethod ({ cls := "InterestTaken$Ear", name := "hears", desc := "(II)I" } : Jvm.MethodName)) ∈ lw_all := lw_g (lw_at lw_m4 32 rfl) rfl
theorem q832 : (Jvm.Cond.selects "InterestTaken$Ear" ({ cls := "InterestTaken$Ear", name := "hears", desc := "(II)I" } : Jvm.MethodName) ({ cls := "InterestTaken$Ear", name := "hears", desc := "(II)I" } : Jvm.MethodName)) ∈ lw_all := lw_g (lw_at lw_m4 33 rfl) rfl
theorem q833 : (Jvm.Cond.sameMethod "InterestTaken$Ear" "InterestTaken$Ear" "hears" "(II)I") ∈ lw_all := lw_g (lw_at lw_m4 34 rfl) rfl
theorem q839 : (Jvm.Cond.code ({ cls := "InterestTaken$Ear", name := "hears", desc := "(II)I" } : Jvm.MethodName) prog_3_method_2_code (3 : Nat) (Option.some Jvm.ClassFile.FieldType.int)) ∈ lw_all := lw_g (lw_at lw_m4 40 rfl) rfl
theorem q840 : (Jvm.Cond.methodLink "InterestTaken$Ear" (7 : Nat) ({ cls := "java/lang/Math", name := "min", desc := "(II)I" } : Jvm.MethodName)) ∈ lw_all := lw_g (lw_at lw_m4 41 rfl) rfl
theorem q842 : (Jvm.Cond.instanceMethod ({ cls := "InterestTaken$Ear", name := "takes", desc := "(I)I" } : Jvm.MethodName)) ∈ lw_all := lw_g (lw_at lw_m4 43 rfl) rfl
theorem q843 : (Jvm.Cond.selects "InterestTaken$Ear" ({ cls := "InterestTaken$Ear", name := "takes", desc := "(I)I" } : Jvm.MethodName) ({ cls := "InterestTaken$Ear", name := "takes", desc := "(I)I" } : Jvm.MethodName)) ∈ lw_all := lw_g (lw_at lw_m4 44 rfl) rfl
theorem q844 : (Jvm.Cond.sameMethod "InterestTaken$Ear" "InterestTaken$Ear" "takes" "(I)I") ∈ lw_all := lw_g (lw_at lw_m4 45 rfl) rfl
theorem q849 : (Jvm.Cond.code ({ cls := "InterestTaken$Ear", name := "takes", desc := "(I)I" } : Jvm.MethodName) prog_3_method_3_code (2 : Nat) (Option.some Jvm.ClassFile.FieldType.int)) ∈ lw_all := lw_g (lw_at lw_m4 50 rfl) rfl
theorem q1628 : (Jvm.Cond.castable "InterestTaken$Ear" "java/lang/Object") ∈ lw_tbl := lw_at lw_m7 109 rfl
