/-! TurnEstimator -/
set_option maxRecDepth 100000
def RX1 : String := "TurnEstimator"
def TX1 : u_T := fun k => match k with
  | 0 => ("TurnEstimator", "rowStep", "LTurnEstimator$Step;", true)
  | 1 => ("TurnEstimator", "columnStep", "LTurnEstimator$Step;", true)
  | 2 => ("TurnEstimator", "many", "I", false)
  | 3 => ("TurnEstimator", "inflows", "[I", true)
  | 4 => ("TurnEstimator", "outflows", "[I", true)
  | 5 => ("TurnEstimator", "weights", "[I", true)
  | 6 => ("TurnEstimator", "estimates", "[D", true)
  | 7 => ("TurnEstimator", "done", "I", false)
  | _ => ("TurnEstimator", "hash", "J", false)
def tyX1 : Nat → FieldType := fun k => match k with
  | 0 => .object "TurnEstimator$Step"
  | 1 => .object "TurnEstimator$Step"
  | 2 => .int
  | 3 => .array .int
  | 4 => .array .int
  | 5 => .array .int
  | 6 => .array .double
  | 7 => .int
  | _ => .long
abbrev wsX10 : List Cond := u_ws RX1 TX1 9
theorem nmX1 : ∀ a, a < 9 → ∀ b, b < 9 → a ≠ b → (TX1 a).2.1 ≠ (TX1 b).2.1 := by decide +kernel
theorem tyX1_ok : ∀ k, k < 9 → parseFieldDescriptor (TX1 k).2.2.1 = some (tyX1 k) := by decide +kernel
abbrev cX1_init : ByteArray := prog_1_method_6_code
def yX1_init : MethodName := ⟨RX1, "<init>", "()V"⟩
def dkwX1_init_2 : List UInt8 := [181, 0, 47, 42, 16, 36, 188, 7, 181, 0, 50, 42, 7, 182, 0, 54, 177]
abbrev dktX1_init_2 : List UInt8 := dkwX1_init_2 ++ []
def dkwX1_init_1 : List UInt8 := [181, 0, 37, 42, 16, 6, 188, 10, 181, 0, 40, 42, 16, 6, 188, 10, 181, 0, 44, 42, 16, 36, 188, 10]
abbrev dktX1_init_1 : List UInt8 := dkwX1_init_1 ++ dktX1_init_2
def dkwX1_init_0 : List UInt8 := [42, 183, 0, 24, 42, 187, 0, 27, 89, 183, 0, 29, 181, 0, 30, 42, 187, 0, 34, 89, 183, 0, 36]
abbrev dktX1_init_0 : List UInt8 := dkwX1_init_0 ++ dktX1_init_1
theorem dksX1_init_0 : cX1_init.data.toList.drop 0 = dktX1_init_0 := by decide +kernel
theorem dksX1_init_1 : cX1_init.data.toList.drop 23 = dktX1_init_1 := dk_seg dksX1_init_0 23 rfl rfl
theorem dksX1_init_2 : cX1_init.data.toList.drop 47 = dktX1_init_2 := dk_seg dksX1_init_1 24 rfl rfl
theorem dX1_init_0 : decode cX1_init 0 = .ok (.aload_n 0, 1) := dk_42 (dk_at dksX1_init_0 0 rfl rfl)
theorem dX1_init_1 : decode cX1_init 1 = .ok (.invokespecial 24, 3) := dk_183 0 24 (dk_at dksX1_init_0 1 rfl rfl)
theorem dX1_init_4 : decode cX1_init 4 = .ok (.aload_n 0, 1) := dk_42 (dk_at dksX1_init_0 4 rfl rfl)
theorem dX1_init_5 : decode cX1_init 5 = .ok (.new 27, 3) := dk_187 0 27 (dk_at dksX1_init_0 5 rfl rfl)
theorem dX1_init_8 : decode cX1_init 8 = .ok (.dup, 1) := dk_89 (dk_at dksX1_init_0 8 rfl rfl)
theorem dX1_init_9 : decode cX1_init 9 = .ok (.invokespecial 29, 3) := dk_183 0 29 (dk_at dksX1_init_0 9 rfl rfl)
theorem dX1_init_12 : decode cX1_init 12 = .ok (.putfield 30, 3) := dk_181 0 30 (dk_at dksX1_init_0 12 rfl rfl)
theorem dX1_init_15 : decode cX1_init 15 = .ok (.aload_n 0, 1) := dk_42 (dk_at dksX1_init_0 15 rfl rfl)
theorem dX1_init_16 : decode cX1_init 16 = .ok (.new 34, 3) := dk_187 0 34 (dk_at dksX1_init_0 16 rfl rfl)
theorem dX1_init_19 : decode cX1_init 19 = .ok (.dup, 1) := dk_89 (dk_at dksX1_init_0 19 rfl rfl)
theorem dX1_init_20 : decode cX1_init 20 = .ok (.invokespecial 36, 3) := dk_183 0 36 (dk_at dksX1_init_0 20 rfl rfl)
theorem dX1_init_23 : decode cX1_init 23 = .ok (.putfield 37, 3) := dk_181 0 37 (dk_at dksX1_init_1 0 rfl rfl)
theorem dX1_init_26 : decode cX1_init 26 = .ok (.aload_n 0, 1) := dk_42 (dk_at dksX1_init_1 3 rfl rfl)
theorem dX1_init_27 : decode cX1_init 27 = .ok (.bipush 6, 2) := dk_16 6 (dk_at dksX1_init_1 4 rfl rfl)
theorem dX1_init_29 : decode cX1_init 29 = .ok (.newarray .int, 2) := dk_188_10 (dk_at dksX1_init_1 6 rfl rfl)
theorem dX1_init_31 : decode cX1_init 31 = .ok (.putfield 40, 3) := dk_181 0 40 (dk_at dksX1_init_1 8 rfl rfl)
theorem dX1_init_34 : decode cX1_init 34 = .ok (.aload_n 0, 1) := dk_42 (dk_at dksX1_init_1 11 rfl rfl)
theorem dX1_init_35 : decode cX1_init 35 = .ok (.bipush 6, 2) := dk_16 6 (dk_at dksX1_init_1 12 rfl rfl)
theorem dX1_init_37 : decode cX1_init 37 = .ok (.newarray .int, 2) := dk_188_10 (dk_at dksX1_init_1 14 rfl rfl)
theorem dX1_init_39 : decode cX1_init 39 = .ok (.putfield 44, 3) := dk_181 0 44 (dk_at dksX1_init_1 16 rfl rfl)
theorem dX1_init_42 : decode cX1_init 42 = .ok (.aload_n 0, 1) := dk_42 (dk_at dksX1_init_1 19 rfl rfl)
theorem dX1_init_43 : decode cX1_init 43 = .ok (.bipush 36, 2) := dk_16 36 (dk_at dksX1_init_1 20 rfl rfl)
theorem dX1_init_45 : decode cX1_init 45 = .ok (.newarray .int, 2) := dk_188_10 (dk_at dksX1_init_1 22 rfl rfl)
theorem dX1_init_47 : decode cX1_init 47 = .ok (.putfield 47, 3) := dk_181 0 47 (dk_at dksX1_init_2 0 rfl rfl)
theorem dX1_init_50 : decode cX1_init 50 = .ok (.aload_n 0, 1) := dk_42 (dk_at dksX1_init_2 3 rfl rfl)
theorem dX1_init_51 : decode cX1_init 51 = .ok (.bipush 36, 2) := dk_16 36 (dk_at dksX1_init_2 4 rfl rfl)
theorem dX1_init_53 : decode cX1_init 53 = .ok (.newarray .double, 2) := dk_188_7 (dk_at dksX1_init_2 6 rfl rfl)
theorem dX1_init_55 : decode cX1_init 55 = .ok (.putfield 50, 3) := dk_181 0 50 (dk_at dksX1_init_2 8 rfl rfl)
theorem dX1_init_58 : decode cX1_init 58 = .ok (.aload_n 0, 1) := dk_42 (dk_at dksX1_init_2 11 rfl rfl)
theorem dX1_init_59 : decode cX1_init 59 = .ok (.iconst 4, 1) := dk_7 (dk_at dksX1_init_2 12 rfl rfl)
theorem dX1_init_60 : decode cX1_init 60 = .ok (.invokevirtual 54, 3) := dk_182 0 54 (dk_at dksX1_init_2 13 rfl rfl)
theorem dX1_init_63 : decode cX1_init 63 = .ok (.return_, 1) := dk_177 (dk_at dksX1_init_2 16 rfl rfl)
abbrev cX1_begin : ByteArray := prog_1_method_7_code
def yX1_begin : MethodName := ⟨RX1, "begin", "(I)V"⟩
def dkwX1_begin_3 : List UInt8 := [182, 0, 57, 177]
abbrev dktX1_begin_3 : List UInt8 := dkwX1_begin_3 ++ []
def dkwX1_begin_2 : List UInt8 := [160, 0, 7, 3, 167, 0, 4, 4, 79, 132, 3, 1, 167, 255, 226, 132, 2, 1, 167, 255, 198, 42]
abbrev dktX1_begin_2 : List UInt8 := dkwX1_begin_2 ++ dktX1_begin_3
def dkwX1_begin_1 : List UInt8 := [28, 3, 79, 3, 62, 29, 16, 6, 162, 0, 30, 42, 180, 0, 47, 16, 6, 28, 104, 29, 96, 28, 29]
abbrev dktX1_begin_1 : List UInt8 := dkwX1_begin_1 ++ dktX1_begin_2
def dkwX1_begin_0 : List UInt8 := [42, 27, 181, 0, 7, 3, 61, 28, 16, 6, 162, 0, 58, 42, 180, 0, 40, 28, 3, 79, 42, 180, 0, 44]
abbrev dktX1_begin_0 : List UInt8 := dkwX1_begin_0 ++ dktX1_begin_1
theorem dksX1_begin_0 : cX1_begin.data.toList.drop 0 = dktX1_begin_0 := by decide +kernel
theorem dksX1_begin_1 : cX1_begin.data.toList.drop 24 = dktX1_begin_1 := dk_seg dksX1_begin_0 24 rfl rfl
theorem dksX1_begin_2 : cX1_begin.data.toList.drop 47 = dktX1_begin_2 := dk_seg dksX1_begin_1 23 rfl rfl
theorem dksX1_begin_3 : cX1_begin.data.toList.drop 69 = dktX1_begin_3 := dk_seg dksX1_begin_2 22 rfl rfl
theorem dX1_begin_0 : decode cX1_begin 0 = .ok (.aload_n 0, 1) := dk_42 (dk_at dksX1_begin_0 0 rfl rfl)
theorem dX1_begin_1 : decode cX1_begin 1 = .ok (.iload_n 1, 1) := dk_27 (dk_at dksX1_begin_0 1 rfl rfl)
theorem dX1_begin_2 : decode cX1_begin 2 = .ok (.putfield 7, 3) := dk_181 0 7 (dk_at dksX1_begin_0 2 rfl rfl)
theorem dX1_begin_5 : decode cX1_begin 5 = .ok (.iconst 0, 1) := dk_3 (dk_at dksX1_begin_0 5 rfl rfl)
theorem dX1_begin_6 : decode cX1_begin 6 = .ok (.istore_n 2, 1) := dk_61 (dk_at dksX1_begin_0 6 rfl rfl)
theorem dX1_begin_7 : decode cX1_begin 7 = .ok (.iload_n 2, 1) := dk_28 (dk_at dksX1_begin_0 7 rfl rfl)
theorem dX1_begin_8 : decode cX1_begin 8 = .ok (.bipush 6, 2) := dk_16 6 (dk_at dksX1_begin_0 8 rfl rfl)
theorem dX1_begin_10 : decode cX1_begin 10 = .ok (.if_icmp .ge 58, 3) := dk_162 0 58 (dk_at dksX1_begin_0 10 rfl rfl)
theorem dX1_begin_13 : decode cX1_begin 13 = .ok (.aload_n 0, 1) := dk_42 (dk_at dksX1_begin_0 13 rfl rfl)
theorem dX1_begin_14 : decode cX1_begin 14 = .ok (.getfield 40, 3) := dk_180 0 40 (dk_at dksX1_begin_0 14 rfl rfl)
theorem dX1_begin_17 : decode cX1_begin 17 = .ok (.iload_n 2, 1) := dk_28 (dk_at dksX1_begin_0 17 rfl rfl)
theorem dX1_begin_18 : decode cX1_begin 18 = .ok (.iconst 0, 1) := dk_3 (dk_at dksX1_begin_0 18 rfl rfl)
theorem dX1_begin_19 : decode cX1_begin 19 = .ok (.iastore, 1) := dk_79 (dk_at dksX1_begin_0 19 rfl rfl)
theorem dX1_begin_20 : decode cX1_begin 20 = .ok (.aload_n 0, 1) := dk_42 (dk_at dksX1_begin_0 20 rfl rfl)
theorem dX1_begin_21 : decode cX1_begin 21 = .ok (.getfield 44, 3) := dk_180 0 44 (dk_at dksX1_begin_0 21 rfl rfl)
theorem dX1_begin_24 : decode cX1_begin 24 = .ok (.iload_n 2, 1) := dk_28 (dk_at dksX1_begin_1 0 rfl rfl)
theorem dX1_begin_25 : decode cX1_begin 25 = .ok (.iconst 0, 1) := dk_3 (dk_at dksX1_begin_1 1 rfl rfl)
theorem dX1_begin_26 : decode cX1_begin 26 = .ok (.iastore, 1) := dk_79 (dk_at dksX1_begin_1 2 rfl rfl)
theorem dX1_begin_27 : decode cX1_begin 27 = .ok (.iconst 0, 1) := dk_3 (dk_at dksX1_begin_1 3 rfl rfl)
theorem dX1_begin_28 : decode cX1_begin 28 = .ok (.istore_n 3, 1) := dk_62 (dk_at dksX1_begin_1 4 rfl rfl)
theorem dX1_begin_29 : decode cX1_begin 29 = .ok (.iload_n 3, 1) := dk_29 (dk_at dksX1_begin_1 5 rfl rfl)
theorem dX1_begin_30 : decode cX1_begin 30 = .ok (.bipush 6, 2) := dk_16 6 (dk_at dksX1_begin_1 6 rfl rfl)
theorem dX1_begin_32 : decode cX1_begin 32 = .ok (.if_icmp .ge 30, 3) := dk_162 0 30 (dk_at dksX1_begin_1 8 rfl rfl)
theorem dX1_begin_35 : decode cX1_begin 35 = .ok (.aload_n 0, 1) := dk_42 (dk_at dksX1_begin_1 11 rfl rfl)
theorem dX1_begin_36 : decode cX1_begin 36 = .ok (.getfield 47, 3) := dk_180 0 47 (dk_at dksX1_begin_1 12 rfl rfl)
theorem dX1_begin_39 : decode cX1_begin 39 = .ok (.bipush 6, 2) := dk_16 6 (dk_at dksX1_begin_1 15 rfl rfl)
theorem dX1_begin_41 : decode cX1_begin 41 = .ok (.iload_n 2, 1) := dk_28 (dk_at dksX1_begin_1 17 rfl rfl)
theorem dX1_begin_42 : decode cX1_begin 42 = .ok (.imul, 1) := dk_104 (dk_at dksX1_begin_1 18 rfl rfl)
theorem dX1_begin_43 : decode cX1_begin 43 = .ok (.iload_n 3, 1) := dk_29 (dk_at dksX1_begin_1 19 rfl rfl)
theorem dX1_begin_44 : decode cX1_begin 44 = .ok (.iadd, 1) := dk_96 (dk_at dksX1_begin_1 20 rfl rfl)
theorem dX1_begin_45 : decode cX1_begin 45 = .ok (.iload_n 2, 1) := dk_28 (dk_at dksX1_begin_1 21 rfl rfl)
theorem dX1_begin_46 : decode cX1_begin 46 = .ok (.iload_n 3, 1) := dk_29 (dk_at dksX1_begin_1 22 rfl rfl)
theorem dX1_begin_47 : decode cX1_begin 47 = .ok (.if_icmp .ne 7, 3) := dk_160 0 7 (dk_at dksX1_begin_2 0 rfl rfl)
theorem dX1_begin_50 : decode cX1_begin 50 = .ok (.iconst 0, 1) := dk_3 (dk_at dksX1_begin_2 3 rfl rfl)
theorem dX1_begin_51 : decode cX1_begin 51 = .ok (.goto 4, 3) := dk_167 0 4 (dk_at dksX1_begin_2 4 rfl rfl)
theorem dX1_begin_54 : decode cX1_begin 54 = .ok (.iconst 1, 1) := dk_4 (dk_at dksX1_begin_2 7 rfl rfl)
theorem dX1_begin_55 : decode cX1_begin 55 = .ok (.iastore, 1) := dk_79 (dk_at dksX1_begin_2 8 rfl rfl)
theorem dX1_begin_56 : decode cX1_begin 56 = .ok (.iinc 3 1, 3) := dk_132 3 1 (dk_at dksX1_begin_2 9 rfl rfl)
theorem dX1_begin_59 : decode cX1_begin 59 = .ok (.goto (-30), 3) := dk_167 255 226 (dk_at dksX1_begin_2 12 rfl rfl)
theorem dX1_begin_62 : decode cX1_begin 62 = .ok (.iinc 2 1, 3) := dk_132 2 1 (dk_at dksX1_begin_2 15 rfl rfl)
theorem dX1_begin_65 : decode cX1_begin 65 = .ok (.goto (-58), 3) := dk_167 255 198 (dk_at dksX1_begin_2 18 rfl rfl)
theorem dX1_begin_68 : decode cX1_begin 68 = .ok (.aload_n 0, 1) := dk_42 (dk_at dksX1_begin_2 21 rfl rfl)
theorem dX1_begin_69 : decode cX1_begin 69 = .ok (.invokevirtual 57, 3) := dk_182 0 57 (dk_at dksX1_begin_3 0 rfl rfl)
theorem dX1_begin_72 : decode cX1_begin 72 = .ok (.return_, 1) := dk_177 (dk_at dksX1_begin_3 3 rfl rfl)
abbrev cX1_resetNow : ByteArray := prog_1_method_8_code
def yX1_resetNow : MethodName := ⟨RX1, "resetNow", "()V"⟩
def dkwX1_resetNow_1 : List UInt8 := [132, 1, 1, 167, 255, 231, 42, 3, 181, 0, 60, 177]
abbrev dktX1_resetNow_1 : List UInt8 := dkwX1_resetNow_1 ++ []
def dkwX1_resetNow_0 : List UInt8 := [3, 60, 27, 42, 180, 0, 50, 190, 162, 0, 22, 42, 180, 0, 50, 27, 42, 180, 0, 47, 27, 46, 135, 82]
abbrev dktX1_resetNow_0 : List UInt8 := dkwX1_resetNow_0 ++ dktX1_resetNow_1
theorem dksX1_resetNow_0 : cX1_resetNow.data.toList.drop 0 = dktX1_resetNow_0 := by decide +kernel
theorem dksX1_resetNow_1 : cX1_resetNow.data.toList.drop 24 = dktX1_resetNow_1 := dk_seg dksX1_resetNow_0 24 rfl rfl
theorem dX1_resetNow_0 : decode cX1_resetNow 0 = .ok (.iconst 0, 1) := dk_3 (dk_at dksX1_resetNow_0 0 rfl rfl)
theorem dX1_resetNow_1 : decode cX1_resetNow 1 = .ok (.istore_n 1, 1) := dk_60 (dk_at dksX1_resetNow_0 1 rfl rfl)
theorem dX1_resetNow_2 : decode cX1_resetNow 2 = .ok (.iload_n 1, 1) := dk_27 (dk_at dksX1_resetNow_0 2 rfl rfl)
theorem dX1_resetNow_3 : decode cX1_resetNow 3 = .ok (.aload_n 0, 1) := dk_42 (dk_at dksX1_resetNow_0 3 rfl rfl)
theorem dX1_resetNow_4 : decode cX1_resetNow 4 = .ok (.getfield 50, 3) := dk_180 0 50 (dk_at dksX1_resetNow_0 4 rfl rfl)
theorem dX1_resetNow_7 : decode cX1_resetNow 7 = .ok (.arraylength, 1) := dk_190 (dk_at dksX1_resetNow_0 7 rfl rfl)
theorem dX1_resetNow_8 : decode cX1_resetNow 8 = .ok (.if_icmp .ge 22, 3) := dk_162 0 22 (dk_at dksX1_resetNow_0 8 rfl rfl)
theorem dX1_resetNow_11 : decode cX1_resetNow 11 = .ok (.aload_n 0, 1) := dk_42 (dk_at dksX1_resetNow_0 11 rfl rfl)
theorem dX1_resetNow_12 : decode cX1_resetNow 12 = .ok (.getfield 50, 3) := dk_180 0 50 (dk_at dksX1_resetNow_0 12 rfl rfl)
theorem dX1_resetNow_15 : decode cX1_resetNow 15 = .ok (.iload_n 1, 1) := dk_27 (dk_at dksX1_resetNow_0 15 rfl rfl)
theorem dX1_resetNow_16 : decode cX1_resetNow 16 = .ok (.aload_n 0, 1) := dk_42 (dk_at dksX1_resetNow_0 16 rfl rfl)
theorem dX1_resetNow_17 : decode cX1_resetNow 17 = .ok (.getfield 47, 3) := dk_180 0 47 (dk_at dksX1_resetNow_0 17 rfl rfl)
theorem dX1_resetNow_20 : decode cX1_resetNow 20 = .ok (.iload_n 1, 1) := dk_27 (dk_at dksX1_resetNow_0 20 rfl rfl)
theorem dX1_resetNow_21 : decode cX1_resetNow 21 = .ok (.iaload, 1) := dk_46 (dk_at dksX1_resetNow_0 21 rfl rfl)
theorem dX1_resetNow_22 : decode cX1_resetNow 22 = .ok (.i2d, 1) := dk_135 (dk_at dksX1_resetNow_0 22 rfl rfl)
theorem dX1_resetNow_23 : decode cX1_resetNow 23 = .ok (.dastore, 1) := dk_82 (dk_at dksX1_resetNow_0 23 rfl rfl)
theorem dX1_resetNow_24 : decode cX1_resetNow 24 = .ok (.iinc 1 1, 3) := dk_132 1 1 (dk_at dksX1_resetNow_1 0 rfl rfl)
theorem dX1_resetNow_27 : decode cX1_resetNow 27 = .ok (.goto (-25), 3) := dk_167 255 231 (dk_at dksX1_resetNow_1 3 rfl rfl)
theorem dX1_resetNow_30 : decode cX1_resetNow 30 = .ok (.aload_n 0, 1) := dk_42 (dk_at dksX1_resetNow_1 6 rfl rfl)
theorem dX1_resetNow_31 : decode cX1_resetNow 31 = .ok (.iconst 0, 1) := dk_3 (dk_at dksX1_resetNow_1 7 rfl rfl)
theorem dX1_resetNow_32 : decode cX1_resetNow 32 = .ok (.putfield 60, 3) := dk_181 0 60 (dk_at dksX1_resetNow_1 8 rfl rfl)
theorem dX1_resetNow_35 : decode cX1_resetNow 35 = .ok (.return_, 1) := dk_177 (dk_at dksX1_resetNow_1 11 rfl rfl)
abbrev cX1_arms : ByteArray := prog_1_method_10_code
def yX1_arms : MethodName := ⟨RX1, "arms", "()I"⟩
theorem dX1_arms_0 : decode cX1_arms 0 = .ok (.aload_n 0, 1) := by decide +kernel
theorem dX1_arms_1 : decode cX1_arms 1 = .ok (.getfield 7, 3) := by decide +kernel
theorem dX1_arms_4 : decode cX1_arms 4 = .ok (.ireturn, 1) := by decide +kernel
abbrev cX1_imbalance : ByteArray := prog_1_method_21_code
def yX1_imbalance : MethodName := ⟨RX1, "imbalance", "()I"⟩
theorem dX1_imbalance_0 : decode cX1_imbalance 0 = .ok (.aload_n 0, 1) := by decide +kernel
theorem dX1_imbalance_1 : decode cX1_imbalance 1 = .ok (.invokevirtual 94, 3) := by decide +kernel
theorem dX1_imbalance_4 : decode cX1_imbalance 4 = .ok (.ireturn, 1) := by decide +kernel
abbrev cX1_imbalanceNow : ByteArray := prog_1_method_20_code
def yX1_imbalanceNow : MethodName := ⟨RX1, "imbalanceNow", "()I"⟩
def dkwX1_imbalanceNow_0 : List UInt8 := [42, 180, 0, 40, 184, 0, 90, 42, 180, 0, 44, 184, 0, 90, 100, 172]
abbrev dktX1_imbalanceNow_0 : List UInt8 := dkwX1_imbalanceNow_0 ++ []
theorem dksX1_imbalanceNow_0 : cX1_imbalanceNow.data.toList.drop 0 = dktX1_imbalanceNow_0 := by decide +kernel
theorem dX1_imbalanceNow_0 : decode cX1_imbalanceNow 0 = .ok (.aload_n 0, 1) := dk_42 (dk_at dksX1_imbalanceNow_0 0 rfl rfl)
theorem dX1_imbalanceNow_1 : decode cX1_imbalanceNow 1 = .ok (.getfield 40, 3) := dk_180 0 40 (dk_at dksX1_imbalanceNow_0 1 rfl rfl)
theorem dX1_imbalanceNow_4 : decode cX1_imbalanceNow 4 = .ok (.invokestatic 90, 3) := dk_184 0 90 (dk_at dksX1_imbalanceNow_0 4 rfl rfl)
theorem dX1_imbalanceNow_7 : decode cX1_imbalanceNow 7 = .ok (.aload_n 0, 1) := dk_42 (dk_at dksX1_imbalanceNow_0 7 rfl rfl)
theorem dX1_imbalanceNow_8 : decode cX1_imbalanceNow 8 = .ok (.getfield 44, 3) := dk_180 0 44 (dk_at dksX1_imbalanceNow_0 8 rfl rfl)
theorem dX1_imbalanceNow_11 : decode cX1_imbalanceNow 11 = .ok (.invokestatic 90, 3) := dk_184 0 90 (dk_at dksX1_imbalanceNow_0 11 rfl rfl)
theorem dX1_imbalanceNow_14 : decode cX1_imbalanceNow 14 = .ok (.isub, 1) := dk_100 (dk_at dksX1_imbalanceNow_0 14 rfl rfl)
theorem dX1_imbalanceNow_15 : decode cX1_imbalanceNow 15 = .ok (.ireturn, 1) := dk_172 (dk_at dksX1_imbalanceNow_0 15 rfl rfl)
abbrev cX1_total : ByteArray := prog_1_method_18_code
def yX1_total : MethodName := ⟨RX1, "total", "([I)I"⟩
def dkwX1_total_1 : List UInt8 := [21, 5, 96, 60, 132, 4, 1, 167, 255, 236, 27, 172]
abbrev dktX1_total_1 : List UInt8 := dkwX1_total_1 ++ []
def dkwX1_total_0 : List UInt8 := [3, 60, 42, 77, 44, 190, 62, 3, 54, 4, 21, 4, 29, 162, 0, 20, 44, 21, 4, 46, 54, 5, 27]
abbrev dktX1_total_0 : List UInt8 := dkwX1_total_0 ++ dktX1_total_1
theorem dksX1_total_0 : cX1_total.data.toList.drop 0 = dktX1_total_0 := by decide +kernel
theorem dksX1_total_1 : cX1_total.data.toList.drop 23 = dktX1_total_1 := dk_seg dksX1_total_0 23 rfl rfl
theorem dX1_total_0 : decode cX1_total 0 = .ok (.iconst 0, 1) := dk_3 (dk_at dksX1_total_0 0 rfl rfl)
theorem dX1_total_1 : decode cX1_total 1 = .ok (.istore_n 1, 1) := dk_60 (dk_at dksX1_total_0 1 rfl rfl)
theorem dX1_total_2 : decode cX1_total 2 = .ok (.aload_n 0, 1) := dk_42 (dk_at dksX1_total_0 2 rfl rfl)
theorem dX1_total_3 : decode cX1_total 3 = .ok (.astore_n 2, 1) := dk_77 (dk_at dksX1_total_0 3 rfl rfl)
theorem dX1_total_4 : decode cX1_total 4 = .ok (.aload_n 2, 1) := dk_44 (dk_at dksX1_total_0 4 rfl rfl)
theorem dX1_total_5 : decode cX1_total 5 = .ok (.arraylength, 1) := dk_190 (dk_at dksX1_total_0 5 rfl rfl)
theorem dX1_total_6 : decode cX1_total 6 = .ok (.istore_n 3, 1) := dk_62 (dk_at dksX1_total_0 6 rfl rfl)
theorem dX1_total_7 : decode cX1_total 7 = .ok (.iconst 0, 1) := dk_3 (dk_at dksX1_total_0 7 rfl rfl)
theorem dX1_total_8 : decode cX1_total 8 = .ok (.istore 4, 2) := dk_54 4 (dk_at dksX1_total_0 8 rfl rfl)
theorem dX1_total_10 : decode cX1_total 10 = .ok (.iload 4, 2) := dk_21 4 (dk_at dksX1_total_0 10 rfl rfl)
theorem dX1_total_12 : decode cX1_total 12 = .ok (.iload_n 3, 1) := dk_29 (dk_at dksX1_total_0 12 rfl rfl)
theorem dX1_total_13 : decode cX1_total 13 = .ok (.if_icmp .ge 20, 3) := dk_162 0 20 (dk_at dksX1_total_0 13 rfl rfl)
theorem dX1_total_16 : decode cX1_total 16 = .ok (.aload_n 2, 1) := dk_44 (dk_at dksX1_total_0 16 rfl rfl)
theorem dX1_total_17 : decode cX1_total 17 = .ok (.iload 4, 2) := dk_21 4 (dk_at dksX1_total_0 17 rfl rfl)
theorem dX1_total_19 : decode cX1_total 19 = .ok (.iaload, 1) := dk_46 (dk_at dksX1_total_0 19 rfl rfl)
theorem dX1_total_20 : decode cX1_total 20 = .ok (.istore 5, 2) := dk_54 5 (dk_at dksX1_total_0 20 rfl rfl)
theorem dX1_total_22 : decode cX1_total 22 = .ok (.iload_n 1, 1) := dk_27 (dk_at dksX1_total_0 22 rfl rfl)
theorem dX1_total_23 : decode cX1_total 23 = .ok (.iload 5, 2) := dk_21 5 (dk_at dksX1_total_1 0 rfl rfl)
theorem dX1_total_25 : decode cX1_total 25 = .ok (.iadd, 1) := dk_96 (dk_at dksX1_total_1 2 rfl rfl)
theorem dX1_total_26 : decode cX1_total 26 = .ok (.istore_n 1, 1) := dk_60 (dk_at dksX1_total_1 3 rfl rfl)
theorem dX1_total_27 : decode cX1_total 27 = .ok (.iinc 4 1, 3) := dk_132 4 1 (dk_at dksX1_total_1 4 rfl rfl)
theorem dX1_total_30 : decode cX1_total 30 = .ok (.goto (-20), 3) := dk_167 255 236 (dk_at dksX1_total_1 7 rfl rfl)
theorem dX1_total_33 : decode cX1_total 33 = .ok (.iload_n 1, 1) := dk_27 (dk_at dksX1_total_1 10 rfl rfl)
theorem dX1_total_34 : decode cX1_total 34 = .ok (.ireturn, 1) := dk_172 (dk_at dksX1_total_1 11 rfl rfl)
abbrev cX1_isPossible : ByteArray := prog_1_method_25_code
def yX1_isPossible : MethodName := ⟨RX1, "isPossible", "()Z"⟩
theorem dX1_isPossible_0 : decode cX1_isPossible 0 = .ok (.aload_n 0, 1) := by decide +kernel
theorem dX1_isPossible_1 : decode cX1_isPossible 1 = .ok (.invokevirtual 109, 3) := by decide +kernel
theorem dX1_isPossible_4 : decode cX1_isPossible 4 = .ok (.ireturn, 1) := by decide +kernel
abbrev cX1_arePossible : ByteArray := prog_1_method_24_code
def yX1_arePossible : MethodName := ⟨RX1, "arePossible", "()Z"⟩
def dkwX1_arePossible_0 : List UInt8 := [42, 182, 0, 94, 154, 0, 15, 42, 182, 0, 106, 2, 160, 0, 7, 4, 167, 0, 4, 3, 172]
abbrev dktX1_arePossible_0 : List UInt8 := dkwX1_arePossible_0 ++ []
theorem dksX1_arePossible_0 : cX1_arePossible.data.toList.drop 0 = dktX1_arePossible_0 := by decide +kernel
theorem dX1_arePossible_0 : decode cX1_arePossible 0 = .ok (.aload_n 0, 1) := dk_42 (dk_at dksX1_arePossible_0 0 rfl rfl)
theorem dX1_arePossible_1 : decode cX1_arePossible 1 = .ok (.invokevirtual 94, 3) := dk_182 0 94 (dk_at dksX1_arePossible_0 1 rfl rfl)
theorem dX1_arePossible_4 : decode cX1_arePossible 4 = .ok (.ifCond .ne 15, 3) := dk_154 0 15 (dk_at dksX1_arePossible_0 4 rfl rfl)
theorem dX1_arePossible_7 : decode cX1_arePossible 7 = .ok (.aload_n 0, 1) := dk_42 (dk_at dksX1_arePossible_0 7 rfl rfl)
theorem dX1_arePossible_8 : decode cX1_arePossible 8 = .ok (.invokevirtual 106, 3) := dk_182 0 106 (dk_at dksX1_arePossible_0 8 rfl rfl)
theorem dX1_arePossible_11 : decode cX1_arePossible 11 = .ok (.iconst (-1), 1) := dk_2 (dk_at dksX1_arePossible_0 11 rfl rfl)
theorem dX1_arePossible_12 : decode cX1_arePossible 12 = .ok (.if_icmp .ne 7, 3) := dk_160 0 7 (dk_at dksX1_arePossible_0 12 rfl rfl)
theorem dX1_arePossible_15 : decode cX1_arePossible 15 = .ok (.iconst 1, 1) := dk_4 (dk_at dksX1_arePossible_0 15 rfl rfl)
theorem dX1_arePossible_16 : decode cX1_arePossible 16 = .ok (.goto 4, 3) := dk_167 0 4 (dk_at dksX1_arePossible_0 16 rfl rfl)
theorem dX1_arePossible_19 : decode cX1_arePossible 19 = .ok (.iconst 0, 1) := dk_3 (dk_at dksX1_arePossible_0 19 rfl rfl)
theorem dX1_arePossible_20 : decode cX1_arePossible 20 = .ok (.ireturn, 1) := dk_172 (dk_at dksX1_arePossible_0 20 rfl rfl)
abbrev cX1_crowdedNow : ByteArray := prog_1_method_23_code
def yX1_crowdedNow : MethodName := ⟨RX1, "crowdedNow", "()I"⟩
def dkwX1_crowdedNow_1 : List UInt8 := [132, 1, 1, 167, 255, 233, 2, 172]
abbrev dktX1_crowdedNow_1 : List UInt8 := dkwX1_crowdedNow_1 ++ []
def dkwX1_crowdedNow_0 : List UInt8 := [4, 60, 27, 4, 42, 180, 0, 7, 120, 162, 0, 19, 42, 27, 182, 0, 102, 158, 0, 5, 27, 172]
abbrev dktX1_crowdedNow_0 : List UInt8 := dkwX1_crowdedNow_0 ++ dktX1_crowdedNow_1
theorem dksX1_crowdedNow_0 : cX1_crowdedNow.data.toList.drop 0 = dktX1_crowdedNow_0 := by decide +kernel
theorem dksX1_crowdedNow_1 : cX1_crowdedNow.data.toList.drop 22 = dktX1_crowdedNow_1 := dk_seg dksX1_crowdedNow_0 22 rfl rfl
theorem dX1_crowdedNow_0 : decode cX1_crowdedNow 0 = .ok (.iconst 1, 1) := dk_4 (dk_at dksX1_crowdedNow_0 0 rfl rfl)
theorem dX1_crowdedNow_1 : decode cX1_crowdedNow 1 = .ok (.istore_n 1, 1) := dk_60 (dk_at dksX1_crowdedNow_0 1 rfl rfl)
theorem dX1_crowdedNow_2 : decode cX1_crowdedNow 2 = .ok (.iload_n 1, 1) := dk_27 (dk_at dksX1_crowdedNow_0 2 rfl rfl)
theorem dX1_crowdedNow_3 : decode cX1_crowdedNow 3 = .ok (.iconst 1, 1) := dk_4 (dk_at dksX1_crowdedNow_0 3 rfl rfl)
theorem dX1_crowdedNow_4 : decode cX1_crowdedNow 4 = .ok (.aload_n 0, 1) := dk_42 (dk_at dksX1_crowdedNow_0 4 rfl rfl)
theorem dX1_crowdedNow_5 : decode cX1_crowdedNow 5 = .ok (.getfield 7, 3) := dk_180 0 7 (dk_at dksX1_crowdedNow_0 5 rfl rfl)
theorem dX1_crowdedNow_8 : decode cX1_crowdedNow 8 = .ok (.ishl, 1) := dk_120 (dk_at dksX1_crowdedNow_0 8 rfl rfl)
theorem dX1_crowdedNow_9 : decode cX1_crowdedNow 9 = .ok (.if_icmp .ge 19, 3) := dk_162 0 19 (dk_at dksX1_crowdedNow_0 9 rfl rfl)
theorem dX1_crowdedNow_12 : decode cX1_crowdedNow 12 = .ok (.aload_n 0, 1) := dk_42 (dk_at dksX1_crowdedNow_0 12 rfl rfl)
theorem dX1_crowdedNow_13 : decode cX1_crowdedNow 13 = .ok (.iload_n 1, 1) := dk_27 (dk_at dksX1_crowdedNow_0 13 rfl rfl)
theorem dX1_crowdedNow_14 : decode cX1_crowdedNow 14 = .ok (.invokevirtual 102, 3) := dk_182 0 102 (dk_at dksX1_crowdedNow_0 14 rfl rfl)
theorem dX1_crowdedNow_17 : decode cX1_crowdedNow 17 = .ok (.ifCond .le 5, 3) := dk_158 0 5 (dk_at dksX1_crowdedNow_0 17 rfl rfl)
theorem dX1_crowdedNow_20 : decode cX1_crowdedNow 20 = .ok (.iload_n 1, 1) := dk_27 (dk_at dksX1_crowdedNow_0 20 rfl rfl)
theorem dX1_crowdedNow_21 : decode cX1_crowdedNow 21 = .ok (.ireturn, 1) := dk_172 (dk_at dksX1_crowdedNow_0 21 rfl rfl)
theorem dX1_crowdedNow_22 : decode cX1_crowdedNow 22 = .ok (.iinc 1 1, 3) := dk_132 1 1 (dk_at dksX1_crowdedNow_1 0 rfl rfl)
theorem dX1_crowdedNow_25 : decode cX1_crowdedNow 25 = .ok (.goto (-23), 3) := dk_167 255 233 (dk_at dksX1_crowdedNow_1 3 rfl rfl)
theorem dX1_crowdedNow_28 : decode cX1_crowdedNow 28 = .ok (.iconst (-1), 1) := dk_2 (dk_at dksX1_crowdedNow_1 6 rfl rfl)
theorem dX1_crowdedNow_29 : decode cX1_crowdedNow 29 = .ok (.ireturn, 1) := dk_172 (dk_at dksX1_crowdedNow_1 7 rfl rfl)
abbrev cX1_excessOf : ByteArray := prog_1_method_22_code
def yX1_excessOf : MethodName := ⟨RX1, "excessOf", "(I)I"⟩
def dkwX1_excessOf_6 : List UInt8 := [167, 255, 221, 29, 172]
abbrev dktX1_excessOf_6 : List UInt8 := dkwX1_excessOf_6 ++ []
def dkwX1_excessOf_5 : List UInt8 := [184, 0, 98, 153, 0, 13, 42, 180, 0, 44, 21, 4, 46, 167, 0, 4, 3, 100, 62, 132, 4, 1]
abbrev dktX1_excessOf_5 : List UInt8 := dkwX1_excessOf_5 ++ dktX1_excessOf_6
def dkwX1_excessOf_4 : List UInt8 := [132, 4, 1, 167, 255, 167, 3, 54, 4, 21, 4, 42, 180, 0, 7, 162, 0, 32, 29, 28, 21, 4]
abbrev dktX1_excessOf_4 : List UInt8 := dkwX1_excessOf_4 ++ dktX1_excessOf_5
def dkwX1_excessOf_3 : List UInt8 := [104, 21, 5, 96, 46, 158, 0, 10, 4, 21, 5, 120, 167, 0, 4, 3, 128, 61, 132, 5, 1, 167, 255, 208]
abbrev dktX1_excessOf_3 : List UInt8 := dkwX1_excessOf_3 ++ dktX1_excessOf_4
def dkwX1_excessOf_2 : List UInt8 := [180, 0, 7, 162, 0, 45, 27, 21, 4, 184, 0, 98, 153, 0, 36, 28, 42, 180, 0, 47, 16, 6, 21, 4]
abbrev dktX1_excessOf_2 : List UInt8 := dkwX1_excessOf_2 ++ dktX1_excessOf_3
def dkwX1_excessOf_1 : List UInt8 := [153, 0, 13, 42, 180, 0, 40, 21, 4, 46, 167, 0, 4, 3, 96, 62, 3, 54, 5, 21, 5, 42]
abbrev dktX1_excessOf_1 : List UInt8 := dkwX1_excessOf_1 ++ dktX1_excessOf_2
def dkwX1_excessOf_0 : List UInt8 := [3, 61, 3, 62, 3, 54, 4, 21, 4, 42, 180, 0, 7, 162, 0, 86, 29, 27, 21, 4, 184, 0, 98]
abbrev dktX1_excessOf_0 : List UInt8 := dkwX1_excessOf_0 ++ dktX1_excessOf_1
theorem dksX1_excessOf_0 : cX1_excessOf.data.toList.drop 0 = dktX1_excessOf_0 := by decide +kernel
theorem dksX1_excessOf_1 : cX1_excessOf.data.toList.drop 23 = dktX1_excessOf_1 := dk_seg dksX1_excessOf_0 23 rfl rfl
theorem dksX1_excessOf_2 : cX1_excessOf.data.toList.drop 45 = dktX1_excessOf_2 := dk_seg dksX1_excessOf_1 22 rfl rfl
theorem dksX1_excessOf_3 : cX1_excessOf.data.toList.drop 69 = dktX1_excessOf_3 := dk_seg dksX1_excessOf_2 24 rfl rfl
theorem dksX1_excessOf_4 : cX1_excessOf.data.toList.drop 93 = dktX1_excessOf_4 := dk_seg dksX1_excessOf_3 24 rfl rfl
theorem dksX1_excessOf_5 : cX1_excessOf.data.toList.drop 115 = dktX1_excessOf_5 := dk_seg dksX1_excessOf_4 22 rfl rfl
theorem dksX1_excessOf_6 : cX1_excessOf.data.toList.drop 137 = dktX1_excessOf_6 := dk_seg dksX1_excessOf_5 22 rfl rfl
theorem dX1_excessOf_0 : decode cX1_excessOf 0 = .ok (.iconst 0, 1) := dk_3 (dk_at dksX1_excessOf_0 0 rfl rfl)
theorem dX1_excessOf_1 : decode cX1_excessOf 1 = .ok (.istore_n 2, 1) := dk_61 (dk_at dksX1_excessOf_0 1 rfl rfl)
theorem dX1_excessOf_2 : decode cX1_excessOf 2 = .ok (.iconst 0, 1) := dk_3 (dk_at dksX1_excessOf_0 2 rfl rfl)
theorem dX1_excessOf_3 : decode cX1_excessOf 3 = .ok (.istore_n 3, 1) := dk_62 (dk_at dksX1_excessOf_0 3 rfl rfl)
theorem dX1_excessOf_4 : decode cX1_excessOf 4 = .ok (.iconst 0, 1) := dk_3 (dk_at dksX1_excessOf_0 4 rfl rfl)
theorem dX1_excessOf_5 : decode cX1_excessOf 5 = .ok (.istore 4, 2) := dk_54 4 (dk_at dksX1_excessOf_0 5 rfl rfl)
theorem dX1_excessOf_7 : decode cX1_excessOf 7 = .ok (.iload 4, 2) := dk_21 4 (dk_at dksX1_excessOf_0 7 rfl rfl)
theorem dX1_excessOf_9 : decode cX1_excessOf 9 = .ok (.aload_n 0, 1) := dk_42 (dk_at dksX1_excessOf_0 9 rfl rfl)
theorem dX1_excessOf_10 : decode cX1_excessOf 10 = .ok (.getfield 7, 3) := dk_180 0 7 (dk_at dksX1_excessOf_0 10 rfl rfl)
theorem dX1_excessOf_13 : decode cX1_excessOf 13 = .ok (.if_icmp .ge 86, 3) := dk_162 0 86 (dk_at dksX1_excessOf_0 13 rfl rfl)
theorem dX1_excessOf_16 : decode cX1_excessOf 16 = .ok (.iload_n 3, 1) := dk_29 (dk_at dksX1_excessOf_0 16 rfl rfl)
theorem dX1_excessOf_17 : decode cX1_excessOf 17 = .ok (.iload_n 1, 1) := dk_27 (dk_at dksX1_excessOf_0 17 rfl rfl)
theorem dX1_excessOf_18 : decode cX1_excessOf 18 = .ok (.iload 4, 2) := dk_21 4 (dk_at dksX1_excessOf_0 18 rfl rfl)
theorem dX1_excessOf_20 : decode cX1_excessOf 20 = .ok (.invokestatic 98, 3) := dk_184 0 98 (dk_at dksX1_excessOf_0 20 rfl rfl)
theorem dX1_excessOf_23 : decode cX1_excessOf 23 = .ok (.ifCond .eq 13, 3) := dk_153 0 13 (dk_at dksX1_excessOf_1 0 rfl rfl)
theorem dX1_excessOf_26 : decode cX1_excessOf 26 = .ok (.aload_n 0, 1) := dk_42 (dk_at dksX1_excessOf_1 3 rfl rfl)
theorem dX1_excessOf_27 : decode cX1_excessOf 27 = .ok (.getfield 40, 3) := dk_180 0 40 (dk_at dksX1_excessOf_1 4 rfl rfl)
theorem dX1_excessOf_30 : decode cX1_excessOf 30 = .ok (.iload 4, 2) := dk_21 4 (dk_at dksX1_excessOf_1 7 rfl rfl)
theorem dX1_excessOf_32 : decode cX1_excessOf 32 = .ok (.iaload, 1) := dk_46 (dk_at dksX1_excessOf_1 9 rfl rfl)
theorem dX1_excessOf_33 : decode cX1_excessOf 33 = .ok (.goto 4, 3) := dk_167 0 4 (dk_at dksX1_excessOf_1 10 rfl rfl)
theorem dX1_excessOf_36 : decode cX1_excessOf 36 = .ok (.iconst 0, 1) := dk_3 (dk_at dksX1_excessOf_1 13 rfl rfl)
theorem dX1_excessOf_37 : decode cX1_excessOf 37 = .ok (.iadd, 1) := dk_96 (dk_at dksX1_excessOf_1 14 rfl rfl)
theorem dX1_excessOf_38 : decode cX1_excessOf 38 = .ok (.istore_n 3, 1) := dk_62 (dk_at dksX1_excessOf_1 15 rfl rfl)
theorem dX1_excessOf_39 : decode cX1_excessOf 39 = .ok (.iconst 0, 1) := dk_3 (dk_at dksX1_excessOf_1 16 rfl rfl)
theorem dX1_excessOf_40 : decode cX1_excessOf 40 = .ok (.istore 5, 2) := dk_54 5 (dk_at dksX1_excessOf_1 17 rfl rfl)
theorem dX1_excessOf_42 : decode cX1_excessOf 42 = .ok (.iload 5, 2) := dk_21 5 (dk_at dksX1_excessOf_1 19 rfl rfl)
theorem dX1_excessOf_44 : decode cX1_excessOf 44 = .ok (.aload_n 0, 1) := dk_42 (dk_at dksX1_excessOf_1 21 rfl rfl)
theorem dX1_excessOf_45 : decode cX1_excessOf 45 = .ok (.getfield 7, 3) := dk_180 0 7 (dk_at dksX1_excessOf_2 0 rfl rfl)
theorem dX1_excessOf_48 : decode cX1_excessOf 48 = .ok (.if_icmp .ge 45, 3) := dk_162 0 45 (dk_at dksX1_excessOf_2 3 rfl rfl)
theorem dX1_excessOf_51 : decode cX1_excessOf 51 = .ok (.iload_n 1, 1) := dk_27 (dk_at dksX1_excessOf_2 6 rfl rfl)
theorem dX1_excessOf_52 : decode cX1_excessOf 52 = .ok (.iload 4, 2) := dk_21 4 (dk_at dksX1_excessOf_2 7 rfl rfl)
theorem dX1_excessOf_54 : decode cX1_excessOf 54 = .ok (.invokestatic 98, 3) := dk_184 0 98 (dk_at dksX1_excessOf_2 9 rfl rfl)
theorem dX1_excessOf_57 : decode cX1_excessOf 57 = .ok (.ifCond .eq 36, 3) := dk_153 0 36 (dk_at dksX1_excessOf_2 12 rfl rfl)
theorem dX1_excessOf_60 : decode cX1_excessOf 60 = .ok (.iload_n 2, 1) := dk_28 (dk_at dksX1_excessOf_2 15 rfl rfl)
theorem dX1_excessOf_61 : decode cX1_excessOf 61 = .ok (.aload_n 0, 1) := dk_42 (dk_at dksX1_excessOf_2 16 rfl rfl)
theorem dX1_excessOf_62 : decode cX1_excessOf 62 = .ok (.getfield 47, 3) := dk_180 0 47 (dk_at dksX1_excessOf_2 17 rfl rfl)
theorem dX1_excessOf_65 : decode cX1_excessOf 65 = .ok (.bipush 6, 2) := dk_16 6 (dk_at dksX1_excessOf_2 20 rfl rfl)
theorem dX1_excessOf_67 : decode cX1_excessOf 67 = .ok (.iload 4, 2) := dk_21 4 (dk_at dksX1_excessOf_2 22 rfl rfl)
theorem dX1_excessOf_69 : decode cX1_excessOf 69 = .ok (.imul, 1) := dk_104 (dk_at dksX1_excessOf_3 0 rfl rfl)
theorem dX1_excessOf_70 : decode cX1_excessOf 70 = .ok (.iload 5, 2) := dk_21 5 (dk_at dksX1_excessOf_3 1 rfl rfl)
theorem dX1_excessOf_72 : decode cX1_excessOf 72 = .ok (.iadd, 1) := dk_96 (dk_at dksX1_excessOf_3 3 rfl rfl)
theorem dX1_excessOf_73 : decode cX1_excessOf 73 = .ok (.iaload, 1) := dk_46 (dk_at dksX1_excessOf_3 4 rfl rfl)
theorem dX1_excessOf_74 : decode cX1_excessOf 74 = .ok (.ifCond .le 10, 3) := dk_158 0 10 (dk_at dksX1_excessOf_3 5 rfl rfl)
theorem dX1_excessOf_77 : decode cX1_excessOf 77 = .ok (.iconst 1, 1) := dk_4 (dk_at dksX1_excessOf_3 8 rfl rfl)
theorem dX1_excessOf_78 : decode cX1_excessOf 78 = .ok (.iload 5, 2) := dk_21 5 (dk_at dksX1_excessOf_3 9 rfl rfl)
theorem dX1_excessOf_80 : decode cX1_excessOf 80 = .ok (.ishl, 1) := dk_120 (dk_at dksX1_excessOf_3 11 rfl rfl)
theorem dX1_excessOf_81 : decode cX1_excessOf 81 = .ok (.goto 4, 3) := dk_167 0 4 (dk_at dksX1_excessOf_3 12 rfl rfl)
theorem dX1_excessOf_84 : decode cX1_excessOf 84 = .ok (.iconst 0, 1) := dk_3 (dk_at dksX1_excessOf_3 15 rfl rfl)
theorem dX1_excessOf_85 : decode cX1_excessOf 85 = .ok (.ior, 1) := dk_128 (dk_at dksX1_excessOf_3 16 rfl rfl)
theorem dX1_excessOf_86 : decode cX1_excessOf 86 = .ok (.istore_n 2, 1) := dk_61 (dk_at dksX1_excessOf_3 17 rfl rfl)
theorem dX1_excessOf_87 : decode cX1_excessOf 87 = .ok (.iinc 5 1, 3) := dk_132 5 1 (dk_at dksX1_excessOf_3 18 rfl rfl)
theorem dX1_excessOf_90 : decode cX1_excessOf 90 = .ok (.goto (-48), 3) := dk_167 255 208 (dk_at dksX1_excessOf_3 21 rfl rfl)
theorem dX1_excessOf_93 : decode cX1_excessOf 93 = .ok (.iinc 4 1, 3) := dk_132 4 1 (dk_at dksX1_excessOf_4 0 rfl rfl)
theorem dX1_excessOf_96 : decode cX1_excessOf 96 = .ok (.goto (-89), 3) := dk_167 255 167 (dk_at dksX1_excessOf_4 3 rfl rfl)
theorem dX1_excessOf_99 : decode cX1_excessOf 99 = .ok (.iconst 0, 1) := dk_3 (dk_at dksX1_excessOf_4 6 rfl rfl)
theorem dX1_excessOf_100 : decode cX1_excessOf 100 = .ok (.istore 4, 2) := dk_54 4 (dk_at dksX1_excessOf_4 7 rfl rfl)
theorem dX1_excessOf_102 : decode cX1_excessOf 102 = .ok (.iload 4, 2) := dk_21 4 (dk_at dksX1_excessOf_4 9 rfl rfl)
theorem dX1_excessOf_104 : decode cX1_excessOf 104 = .ok (.aload_n 0, 1) := dk_42 (dk_at dksX1_excessOf_4 11 rfl rfl)
theorem dX1_excessOf_105 : decode cX1_excessOf 105 = .ok (.getfield 7, 3) := dk_180 0 7 (dk_at dksX1_excessOf_4 12 rfl rfl)
theorem dX1_excessOf_108 : decode cX1_excessOf 108 = .ok (.if_icmp .ge 32, 3) := dk_162 0 32 (dk_at dksX1_excessOf_4 15 rfl rfl)
theorem dX1_excessOf_111 : decode cX1_excessOf 111 = .ok (.iload_n 3, 1) := dk_29 (dk_at dksX1_excessOf_4 18 rfl rfl)
theorem dX1_excessOf_112 : decode cX1_excessOf 112 = .ok (.iload_n 2, 1) := dk_28 (dk_at dksX1_excessOf_4 19 rfl rfl)
theorem dX1_excessOf_113 : decode cX1_excessOf 113 = .ok (.iload 4, 2) := dk_21 4 (dk_at dksX1_excessOf_4 20 rfl rfl)
theorem dX1_excessOf_115 : decode cX1_excessOf 115 = .ok (.invokestatic 98, 3) := dk_184 0 98 (dk_at dksX1_excessOf_5 0 rfl rfl)
theorem dX1_excessOf_118 : decode cX1_excessOf 118 = .ok (.ifCond .eq 13, 3) := dk_153 0 13 (dk_at dksX1_excessOf_5 3 rfl rfl)
theorem dX1_excessOf_121 : decode cX1_excessOf 121 = .ok (.aload_n 0, 1) := dk_42 (dk_at dksX1_excessOf_5 6 rfl rfl)
theorem dX1_excessOf_122 : decode cX1_excessOf 122 = .ok (.getfield 44, 3) := dk_180 0 44 (dk_at dksX1_excessOf_5 7 rfl rfl)
theorem dX1_excessOf_125 : decode cX1_excessOf 125 = .ok (.iload 4, 2) := dk_21 4 (dk_at dksX1_excessOf_5 10 rfl rfl)
theorem dX1_excessOf_127 : decode cX1_excessOf 127 = .ok (.iaload, 1) := dk_46 (dk_at dksX1_excessOf_5 12 rfl rfl)
theorem dX1_excessOf_128 : decode cX1_excessOf 128 = .ok (.goto 4, 3) := dk_167 0 4 (dk_at dksX1_excessOf_5 13 rfl rfl)
theorem dX1_excessOf_131 : decode cX1_excessOf 131 = .ok (.iconst 0, 1) := dk_3 (dk_at dksX1_excessOf_5 16 rfl rfl)
theorem dX1_excessOf_132 : decode cX1_excessOf 132 = .ok (.isub, 1) := dk_100 (dk_at dksX1_excessOf_5 17 rfl rfl)
theorem dX1_excessOf_133 : decode cX1_excessOf 133 = .ok (.istore_n 3, 1) := dk_62 (dk_at dksX1_excessOf_5 18 rfl rfl)
theorem dX1_excessOf_134 : decode cX1_excessOf 134 = .ok (.iinc 4 1, 3) := dk_132 4 1 (dk_at dksX1_excessOf_5 19 rfl rfl)
theorem dX1_excessOf_137 : decode cX1_excessOf 137 = .ok (.goto (-35), 3) := dk_167 255 221 (dk_at dksX1_excessOf_6 0 rfl rfl)
theorem dX1_excessOf_140 : decode cX1_excessOf 140 = .ok (.iload_n 3, 1) := dk_29 (dk_at dksX1_excessOf_6 3 rfl rfl)
theorem dX1_excessOf_141 : decode cX1_excessOf 141 = .ok (.ireturn, 1) := dk_172 (dk_at dksX1_excessOf_6 4 rfl rfl)
abbrev cX1_has : ByteArray := prog_1_method_3_code
def yX1_has : MethodName := ⟨RX1, "has", "(II)Z"⟩
def dkwX1_has_0 : List UInt8 := [26, 27, 122, 4, 126, 4, 160, 0, 7, 4, 167, 0, 4, 3, 172]
abbrev dktX1_has_0 : List UInt8 := dkwX1_has_0 ++ []
theorem dksX1_has_0 : cX1_has.data.toList.drop 0 = dktX1_has_0 := by decide +kernel
theorem dX1_has_0 : decode cX1_has 0 = .ok (.iload_n 0, 1) := dk_26 (dk_at dksX1_has_0 0 rfl rfl)
theorem dX1_has_1 : decode cX1_has 1 = .ok (.iload_n 1, 1) := dk_27 (dk_at dksX1_has_0 1 rfl rfl)
theorem dX1_has_2 : decode cX1_has 2 = .ok (.ishr, 1) := dk_122 (dk_at dksX1_has_0 2 rfl rfl)
theorem dX1_has_3 : decode cX1_has 3 = .ok (.iconst 1, 1) := dk_4 (dk_at dksX1_has_0 3 rfl rfl)
theorem dX1_has_4 : decode cX1_has 4 = .ok (.iand, 1) := dk_126 (dk_at dksX1_has_0 4 rfl rfl)
theorem dX1_has_5 : decode cX1_has 5 = .ok (.iconst 1, 1) := dk_4 (dk_at dksX1_has_0 5 rfl rfl)
theorem dX1_has_6 : decode cX1_has 6 = .ok (.if_icmp .ne 7, 3) := dk_160 0 7 (dk_at dksX1_has_0 6 rfl rfl)
theorem dX1_has_9 : decode cX1_has 9 = .ok (.iconst 1, 1) := dk_4 (dk_at dksX1_has_0 9 rfl rfl)
theorem dX1_has_10 : decode cX1_has 10 = .ok (.goto 4, 3) := dk_167 0 4 (dk_at dksX1_has_0 10 rfl rfl)
theorem dX1_has_13 : decode cX1_has 13 = .ok (.iconst 0, 1) := dk_3 (dk_at dksX1_has_0 13 rfl rfl)
theorem dX1_has_14 : decode cX1_has 14 = .ok (.ireturn, 1) := dk_172 (dk_at dksX1_has_0 14 rfl rfl)
abbrev cX1_crowdedSet : ByteArray := prog_1_method_26_code
def yX1_crowdedSet : MethodName := ⟨RX1, "crowdedSet", "()I"⟩
theorem dX1_crowdedSet_0 : decode cX1_crowdedSet 0 = .ok (.aload_n 0, 1) := by decide +kernel
theorem dX1_crowdedSet_1 : decode cX1_crowdedSet 1 = .ok (.invokevirtual 106, 3) := by decide +kernel
theorem dX1_crowdedSet_4 : decode cX1_crowdedSet 4 = .ok (.ireturn, 1) := by decide +kernel
abbrev cX1_reset : ByteArray := prog_1_method_33_code
def yX1_reset : MethodName := ⟨RX1, "reset", "()I"⟩
def dkwX1_reset_0 : List UInt8 := [42, 180, 0, 60, 60, 42, 182, 0, 57, 27, 172]
abbrev dktX1_reset_0 : List UInt8 := dkwX1_reset_0 ++ []
theorem dksX1_reset_0 : cX1_reset.data.toList.drop 0 = dktX1_reset_0 := by decide +kernel
theorem dX1_reset_0 : decode cX1_reset 0 = .ok (.aload_n 0, 1) := dk_42 (dk_at dksX1_reset_0 0 rfl rfl)
theorem dX1_reset_1 : decode cX1_reset 1 = .ok (.getfield 60, 3) := dk_180 0 60 (dk_at dksX1_reset_0 1 rfl rfl)
theorem dX1_reset_4 : decode cX1_reset 4 = .ok (.istore_n 1, 1) := dk_60 (dk_at dksX1_reset_0 4 rfl rfl)
theorem dX1_reset_5 : decode cX1_reset 5 = .ok (.aload_n 0, 1) := dk_42 (dk_at dksX1_reset_0 5 rfl rfl)
theorem dX1_reset_6 : decode cX1_reset 6 = .ok (.invokevirtual 57, 3) := dk_182 0 57 (dk_at dksX1_reset_0 6 rfl rfl)
theorem dX1_reset_9 : decode cX1_reset 9 = .ok (.iload_n 1, 1) := dk_27 (dk_at dksX1_reset_0 9 rfl rfl)
theorem dX1_reset_10 : decode cX1_reset 10 = .ok (.ireturn, 1) := dk_172 (dk_at dksX1_reset_0 10 rfl rfl)
abbrev cX1_rounds : ByteArray := prog_1_method_34_code
def yX1_rounds : MethodName := ⟨RX1, "rounds", "()I"⟩
theorem dX1_rounds_0 : decode cX1_rounds 0 = .ok (.aload_n 0, 1) := by decide +kernel
theorem dX1_rounds_1 : decode cX1_rounds 1 = .ok (.getfield 60, 3) := by decide +kernel
theorem dX1_rounds_4 : decode cX1_rounds 4 = .ok (.ireturn, 1) := by decide +kernel
abbrev cX1_misfit : ByteArray := prog_1_method_37_code
def yX1_misfit : MethodName := ⟨RX1, "misfit", "()D"⟩
theorem dX1_misfit_0 : decode cX1_misfit 0 = .ok (.aload_n 0, 1) := by decide +kernel
theorem dX1_misfit_1 : decode cX1_misfit 1 = .ok (.invokevirtual 142, 3) := by decide +kernel
theorem dX1_misfit_4 : decode cX1_misfit 4 = .ok (.dreturn, 1) := by decide +kernel
abbrev cX1_misfitNow : ByteArray := prog_1_method_31_code
def yX1_misfitNow : MethodName := ⟨RX1, "misfitNow", "()D"⟩
def dkwX1_misfitNow_4 : List UInt8 := [132, 3, 1, 167, 255, 163, 39, 175]
abbrev dktX1_misfitNow_4 : List UInt8 := dkwX1_misfitNow_4 ++ []
def dkwX1_misfitNow_3 : List UInt8 := [158, 0, 8, 24, 4, 167, 0, 4, 39, 72, 24, 6, 39, 151, 158, 0, 8, 24, 6, 167, 0, 4, 39, 72]
abbrev dktX1_misfitNow_3 : List UInt8 := dkwX1_misfitNow_3 ++ dktX1_misfitNow_4
def dkwX1_misfitNow_2 : List UInt8 := [180, 0, 7, 182, 0, 128, 42, 180, 0, 44, 29, 46, 135, 184, 0, 132, 57, 6, 24, 4, 39, 151]
abbrev dktX1_misfitNow_2 : List UInt8 := dkwX1_misfitNow_2 ++ dktX1_misfitNow_3
def dkwX1_misfitNow_1 : List UInt8 := [182, 0, 128, 42, 180, 0, 40, 29, 46, 135, 184, 0, 132, 57, 4, 178, 0, 136, 42, 180, 0, 50, 29, 42]
abbrev dktX1_misfitNow_1 : List UInt8 := dkwX1_misfitNow_1 ++ dktX1_misfitNow_2
def dkwX1_misfitNow_0 : List UInt8 := [14, 72, 3, 62, 29, 42, 180, 0, 7, 162, 0, 91, 178, 0, 122, 42, 180, 0, 50, 29, 42, 180, 0, 7]
abbrev dktX1_misfitNow_0 : List UInt8 := dkwX1_misfitNow_0 ++ dktX1_misfitNow_1
theorem dksX1_misfitNow_0 : cX1_misfitNow.data.toList.drop 0 = dktX1_misfitNow_0 := by decide +kernel
theorem dksX1_misfitNow_1 : cX1_misfitNow.data.toList.drop 24 = dktX1_misfitNow_1 := dk_seg dksX1_misfitNow_0 24 rfl rfl
theorem dksX1_misfitNow_2 : cX1_misfitNow.data.toList.drop 48 = dktX1_misfitNow_2 := dk_seg dksX1_misfitNow_1 24 rfl rfl
theorem dksX1_misfitNow_3 : cX1_misfitNow.data.toList.drop 70 = dktX1_misfitNow_3 := dk_seg dksX1_misfitNow_2 22 rfl rfl
theorem dksX1_misfitNow_4 : cX1_misfitNow.data.toList.drop 94 = dktX1_misfitNow_4 := dk_seg dksX1_misfitNow_3 24 rfl rfl
theorem dX1_misfitNow_0 : decode cX1_misfitNow 0 = .ok (.dconst 0, 1) := dk_14 (dk_at dksX1_misfitNow_0 0 rfl rfl)
theorem dX1_misfitNow_1 : decode cX1_misfitNow 1 = .ok (.dstore_n 1, 1) := dk_72 (dk_at dksX1_misfitNow_0 1 rfl rfl)
theorem dX1_misfitNow_2 : decode cX1_misfitNow 2 = .ok (.iconst 0, 1) := dk_3 (dk_at dksX1_misfitNow_0 2 rfl rfl)
theorem dX1_misfitNow_3 : decode cX1_misfitNow 3 = .ok (.istore_n 3, 1) := dk_62 (dk_at dksX1_misfitNow_0 3 rfl rfl)
theorem dX1_misfitNow_4 : decode cX1_misfitNow 4 = .ok (.iload_n 3, 1) := dk_29 (dk_at dksX1_misfitNow_0 4 rfl rfl)
theorem dX1_misfitNow_5 : decode cX1_misfitNow 5 = .ok (.aload_n 0, 1) := dk_42 (dk_at dksX1_misfitNow_0 5 rfl rfl)
theorem dX1_misfitNow_6 : decode cX1_misfitNow 6 = .ok (.getfield 7, 3) := dk_180 0 7 (dk_at dksX1_misfitNow_0 6 rfl rfl)
theorem dX1_misfitNow_9 : decode cX1_misfitNow 9 = .ok (.if_icmp .ge 91, 3) := dk_162 0 91 (dk_at dksX1_misfitNow_0 9 rfl rfl)
theorem dX1_misfitNow_12 : decode cX1_misfitNow 12 = .ok (.getstatic 122, 3) := dk_178 0 122 (dk_at dksX1_misfitNow_0 12 rfl rfl)
theorem dX1_misfitNow_15 : decode cX1_misfitNow 15 = .ok (.aload_n 0, 1) := dk_42 (dk_at dksX1_misfitNow_0 15 rfl rfl)
theorem dX1_misfitNow_16 : decode cX1_misfitNow 16 = .ok (.getfield 50, 3) := dk_180 0 50 (dk_at dksX1_misfitNow_0 16 rfl rfl)
theorem dX1_misfitNow_19 : decode cX1_misfitNow 19 = .ok (.iload_n 3, 1) := dk_29 (dk_at dksX1_misfitNow_0 19 rfl rfl)
theorem dX1_misfitNow_20 : decode cX1_misfitNow 20 = .ok (.aload_n 0, 1) := dk_42 (dk_at dksX1_misfitNow_0 20 rfl rfl)
theorem dX1_misfitNow_21 : decode cX1_misfitNow 21 = .ok (.getfield 7, 3) := dk_180 0 7 (dk_at dksX1_misfitNow_0 21 rfl rfl)
theorem dX1_misfitNow_24 : decode cX1_misfitNow 24 = .ok (.invokevirtual 128, 3) := dk_182 0 128 (dk_at dksX1_misfitNow_1 0 rfl rfl)
theorem dX1_misfitNow_27 : decode cX1_misfitNow 27 = .ok (.aload_n 0, 1) := dk_42 (dk_at dksX1_misfitNow_1 3 rfl rfl)
theorem dX1_misfitNow_28 : decode cX1_misfitNow 28 = .ok (.getfield 40, 3) := dk_180 0 40 (dk_at dksX1_misfitNow_1 4 rfl rfl)
theorem dX1_misfitNow_31 : decode cX1_misfitNow 31 = .ok (.iload_n 3, 1) := dk_29 (dk_at dksX1_misfitNow_1 7 rfl rfl)
theorem dX1_misfitNow_32 : decode cX1_misfitNow 32 = .ok (.iaload, 1) := dk_46 (dk_at dksX1_misfitNow_1 8 rfl rfl)
theorem dX1_misfitNow_33 : decode cX1_misfitNow 33 = .ok (.i2d, 1) := dk_135 (dk_at dksX1_misfitNow_1 9 rfl rfl)
theorem dX1_misfitNow_34 : decode cX1_misfitNow 34 = .ok (.invokestatic 132, 3) := dk_184 0 132 (dk_at dksX1_misfitNow_1 10 rfl rfl)
theorem dX1_misfitNow_37 : decode cX1_misfitNow 37 = .ok (.dstore 4, 2) := dk_57 4 (dk_at dksX1_misfitNow_1 13 rfl rfl)
theorem dX1_misfitNow_39 : decode cX1_misfitNow 39 = .ok (.getstatic 136, 3) := dk_178 0 136 (dk_at dksX1_misfitNow_1 15 rfl rfl)
theorem dX1_misfitNow_42 : decode cX1_misfitNow 42 = .ok (.aload_n 0, 1) := dk_42 (dk_at dksX1_misfitNow_1 18 rfl rfl)
theorem dX1_misfitNow_43 : decode cX1_misfitNow 43 = .ok (.getfield 50, 3) := dk_180 0 50 (dk_at dksX1_misfitNow_1 19 rfl rfl)
theorem dX1_misfitNow_46 : decode cX1_misfitNow 46 = .ok (.iload_n 3, 1) := dk_29 (dk_at dksX1_misfitNow_1 22 rfl rfl)
theorem dX1_misfitNow_47 : decode cX1_misfitNow 47 = .ok (.aload_n 0, 1) := dk_42 (dk_at dksX1_misfitNow_1 23 rfl rfl)
theorem dX1_misfitNow_48 : decode cX1_misfitNow 48 = .ok (.getfield 7, 3) := dk_180 0 7 (dk_at dksX1_misfitNow_2 0 rfl rfl)
theorem dX1_misfitNow_51 : decode cX1_misfitNow 51 = .ok (.invokevirtual 128, 3) := dk_182 0 128 (dk_at dksX1_misfitNow_2 3 rfl rfl)
theorem dX1_misfitNow_54 : decode cX1_misfitNow 54 = .ok (.aload_n 0, 1) := dk_42 (dk_at dksX1_misfitNow_2 6 rfl rfl)
theorem dX1_misfitNow_55 : decode cX1_misfitNow 55 = .ok (.getfield 44, 3) := dk_180 0 44 (dk_at dksX1_misfitNow_2 7 rfl rfl)
theorem dX1_misfitNow_58 : decode cX1_misfitNow 58 = .ok (.iload_n 3, 1) := dk_29 (dk_at dksX1_misfitNow_2 10 rfl rfl)
theorem dX1_misfitNow_59 : decode cX1_misfitNow 59 = .ok (.iaload, 1) := dk_46 (dk_at dksX1_misfitNow_2 11 rfl rfl)
theorem dX1_misfitNow_60 : decode cX1_misfitNow 60 = .ok (.i2d, 1) := dk_135 (dk_at dksX1_misfitNow_2 12 rfl rfl)
theorem dX1_misfitNow_61 : decode cX1_misfitNow 61 = .ok (.invokestatic 132, 3) := dk_184 0 132 (dk_at dksX1_misfitNow_2 13 rfl rfl)
theorem dX1_misfitNow_64 : decode cX1_misfitNow 64 = .ok (.dstore 6, 2) := dk_57 6 (dk_at dksX1_misfitNow_2 16 rfl rfl)
theorem dX1_misfitNow_66 : decode cX1_misfitNow 66 = .ok (.dload 4, 2) := dk_24 4 (dk_at dksX1_misfitNow_2 18 rfl rfl)
theorem dX1_misfitNow_68 : decode cX1_misfitNow 68 = .ok (.dload_n 1, 1) := dk_39 (dk_at dksX1_misfitNow_2 20 rfl rfl)
theorem dX1_misfitNow_69 : decode cX1_misfitNow 69 = .ok (.dcmp .l, 1) := dk_151 (dk_at dksX1_misfitNow_2 21 rfl rfl)
theorem dX1_misfitNow_70 : decode cX1_misfitNow 70 = .ok (.ifCond .le 8, 3) := dk_158 0 8 (dk_at dksX1_misfitNow_3 0 rfl rfl)
theorem dX1_misfitNow_73 : decode cX1_misfitNow 73 = .ok (.dload 4, 2) := dk_24 4 (dk_at dksX1_misfitNow_3 3 rfl rfl)
theorem dX1_misfitNow_75 : decode cX1_misfitNow 75 = .ok (.goto 4, 3) := dk_167 0 4 (dk_at dksX1_misfitNow_3 5 rfl rfl)
theorem dX1_misfitNow_78 : decode cX1_misfitNow 78 = .ok (.dload_n 1, 1) := dk_39 (dk_at dksX1_misfitNow_3 8 rfl rfl)
theorem dX1_misfitNow_79 : decode cX1_misfitNow 79 = .ok (.dstore_n 1, 1) := dk_72 (dk_at dksX1_misfitNow_3 9 rfl rfl)
theorem dX1_misfitNow_80 : decode cX1_misfitNow 80 = .ok (.dload 6, 2) := dk_24 6 (dk_at dksX1_misfitNow_3 10 rfl rfl)
theorem dX1_misfitNow_82 : decode cX1_misfitNow 82 = .ok (.dload_n 1, 1) := dk_39 (dk_at dksX1_misfitNow_3 12 rfl rfl)
theorem dX1_misfitNow_83 : decode cX1_misfitNow 83 = .ok (.dcmp .l, 1) := dk_151 (dk_at dksX1_misfitNow_3 13 rfl rfl)
theorem dX1_misfitNow_84 : decode cX1_misfitNow 84 = .ok (.ifCond .le 8, 3) := dk_158 0 8 (dk_at dksX1_misfitNow_3 14 rfl rfl)
theorem dX1_misfitNow_87 : decode cX1_misfitNow 87 = .ok (.dload 6, 2) := dk_24 6 (dk_at dksX1_misfitNow_3 17 rfl rfl)
theorem dX1_misfitNow_89 : decode cX1_misfitNow 89 = .ok (.goto 4, 3) := dk_167 0 4 (dk_at dksX1_misfitNow_3 19 rfl rfl)
theorem dX1_misfitNow_92 : decode cX1_misfitNow 92 = .ok (.dload_n 1, 1) := dk_39 (dk_at dksX1_misfitNow_3 22 rfl rfl)
theorem dX1_misfitNow_93 : decode cX1_misfitNow 93 = .ok (.dstore_n 1, 1) := dk_72 (dk_at dksX1_misfitNow_3 23 rfl rfl)
theorem dX1_misfitNow_94 : decode cX1_misfitNow 94 = .ok (.iinc 3 1, 3) := dk_132 3 1 (dk_at dksX1_misfitNow_4 0 rfl rfl)
theorem dX1_misfitNow_97 : decode cX1_misfitNow 97 = .ok (.goto (-93), 3) := dk_167 255 163 (dk_at dksX1_misfitNow_4 3 rfl rfl)
theorem dX1_misfitNow_100 : decode cX1_misfitNow 100 = .ok (.dload_n 1, 1) := dk_39 (dk_at dksX1_misfitNow_4 6 rfl rfl)
theorem dX1_misfitNow_101 : decode cX1_misfitNow 101 = .ok (.dreturn, 1) := dk_175 (dk_at dksX1_misfitNow_4 7 rfl rfl)
abbrev cX1_distance : ByteArray := prog_1_method_30_code
def yX1_distance : MethodName := ⟨RX1, "distance", "(DD)D"⟩
def dkwX1_distance_0 : List UInt8 := [38, 40, 151, 158, 0, 9, 38, 40, 103, 167, 0, 6, 40, 38, 103, 175]
abbrev dktX1_distance_0 : List UInt8 := dkwX1_distance_0 ++ []
theorem dksX1_distance_0 : cX1_distance.data.toList.drop 0 = dktX1_distance_0 := by decide +kernel
theorem dX1_distance_0 : decode cX1_distance 0 = .ok (.dload_n 0, 1) := dk_38 (dk_at dksX1_distance_0 0 rfl rfl)
theorem dX1_distance_1 : decode cX1_distance 1 = .ok (.dload_n 2, 1) := dk_40 (dk_at dksX1_distance_0 1 rfl rfl)
theorem dX1_distance_2 : decode cX1_distance 2 = .ok (.dcmp .l, 1) := dk_151 (dk_at dksX1_distance_0 2 rfl rfl)
theorem dX1_distance_3 : decode cX1_distance 3 = .ok (.ifCond .le 9, 3) := dk_158 0 9 (dk_at dksX1_distance_0 3 rfl rfl)
theorem dX1_distance_6 : decode cX1_distance 6 = .ok (.dload_n 0, 1) := dk_38 (dk_at dksX1_distance_0 6 rfl rfl)
theorem dX1_distance_7 : decode cX1_distance 7 = .ok (.dload_n 2, 1) := dk_40 (dk_at dksX1_distance_0 7 rfl rfl)
theorem dX1_distance_8 : decode cX1_distance 8 = .ok (.dsub, 1) := dk_103 (dk_at dksX1_distance_0 8 rfl rfl)
theorem dX1_distance_9 : decode cX1_distance 9 = .ok (.goto 6, 3) := dk_167 0 6 (dk_at dksX1_distance_0 9 rfl rfl)
theorem dX1_distance_12 : decode cX1_distance 12 = .ok (.dload_n 2, 1) := dk_40 (dk_at dksX1_distance_0 12 rfl rfl)
theorem dX1_distance_13 : decode cX1_distance 13 = .ok (.dload_n 0, 1) := dk_38 (dk_at dksX1_distance_0 13 rfl rfl)
theorem dX1_distance_14 : decode cX1_distance 14 = .ok (.dsub, 1) := dk_103 (dk_at dksX1_distance_0 14 rfl rfl)
theorem dX1_distance_15 : decode cX1_distance 15 = .ok (.dreturn, 1) := dk_175 (dk_at dksX1_distance_0 15 rfl rfl)
abbrev cX1_busiestTurn : ByteArray := prog_1_method_42_code
def yX1_busiestTurn : MethodName := ⟨RX1, "busiestTurn", "()I"⟩
theorem dX1_busiestTurn_0 : decode cX1_busiestTurn 0 = .ok (.aload_n 0, 1) := by decide +kernel
theorem dX1_busiestTurn_1 : decode cX1_busiestTurn 1 = .ok (.invokevirtual 153, 3) := by decide +kernel
theorem dX1_busiestTurn_4 : decode cX1_busiestTurn 4 = .ok (.ireturn, 1) := by decide +kernel
abbrev cX1_busiestNow : ByteArray := prog_1_method_41_code
def yX1_busiestNow : MethodName := ⟨RX1, "busiestNow", "()I"⟩
def dkwX1_busiestNow_3 : List UInt8 := [24, 6, 167, 0, 4, 40, 73, 132, 5, 1, 167, 255, 195, 132, 4, 1, 167, 255, 177, 27, 172]
abbrev dktX1_busiestNow_3 : List UInt8 := dkwX1_busiestNow_3 ++ []
def dkwX1_busiestNow_2 : List UInt8 := [151, 158, 0, 14, 16, 10, 21, 4, 104, 21, 5, 96, 167, 0, 4, 27, 60, 24, 6, 40, 151, 158, 0, 8]
abbrev dktX1_busiestNow_2 : List UInt8 := dkwX1_busiestNow_2 ++ dktX1_busiestNow_3
def dkwX1_busiestNow_1 : List UInt8 := [180, 0, 7, 162, 0, 58, 42, 180, 0, 50, 16, 6, 21, 4, 104, 21, 5, 96, 49, 57, 6, 24, 6, 40]
abbrev dktX1_busiestNow_1 : List UInt8 := dkwX1_busiestNow_1 ++ dktX1_busiestNow_2
def dkwX1_busiestNow_0 : List UInt8 := [2, 60, 14, 73, 3, 54, 4, 21, 4, 42, 180, 0, 7, 162, 0, 76, 3, 54, 5, 21, 5, 42]
abbrev dktX1_busiestNow_0 : List UInt8 := dkwX1_busiestNow_0 ++ dktX1_busiestNow_1
theorem dksX1_busiestNow_0 : cX1_busiestNow.data.toList.drop 0 = dktX1_busiestNow_0 := by decide +kernel
theorem dksX1_busiestNow_1 : cX1_busiestNow.data.toList.drop 22 = dktX1_busiestNow_1 := dk_seg dksX1_busiestNow_0 22 rfl rfl
theorem dksX1_busiestNow_2 : cX1_busiestNow.data.toList.drop 46 = dktX1_busiestNow_2 := dk_seg dksX1_busiestNow_1 24 rfl rfl
theorem dksX1_busiestNow_3 : cX1_busiestNow.data.toList.drop 70 = dktX1_busiestNow_3 := dk_seg dksX1_busiestNow_2 24 rfl rfl
theorem dX1_busiestNow_0 : decode cX1_busiestNow 0 = .ok (.iconst (-1), 1) := dk_2 (dk_at dksX1_busiestNow_0 0 rfl rfl)
theorem dX1_busiestNow_1 : decode cX1_busiestNow 1 = .ok (.istore_n 1, 1) := dk_60 (dk_at dksX1_busiestNow_0 1 rfl rfl)
theorem dX1_busiestNow_2 : decode cX1_busiestNow 2 = .ok (.dconst 0, 1) := dk_14 (dk_at dksX1_busiestNow_0 2 rfl rfl)
theorem dX1_busiestNow_3 : decode cX1_busiestNow 3 = .ok (.dstore_n 2, 1) := dk_73 (dk_at dksX1_busiestNow_0 3 rfl rfl)
theorem dX1_busiestNow_4 : decode cX1_busiestNow 4 = .ok (.iconst 0, 1) := dk_3 (dk_at dksX1_busiestNow_0 4 rfl rfl)
theorem dX1_busiestNow_5 : decode cX1_busiestNow 5 = .ok (.istore 4, 2) := dk_54 4 (dk_at dksX1_busiestNow_0 5 rfl rfl)
theorem dX1_busiestNow_7 : decode cX1_busiestNow 7 = .ok (.iload 4, 2) := dk_21 4 (dk_at dksX1_busiestNow_0 7 rfl rfl)
theorem dX1_busiestNow_9 : decode cX1_busiestNow 9 = .ok (.aload_n 0, 1) := dk_42 (dk_at dksX1_busiestNow_0 9 rfl rfl)
theorem dX1_busiestNow_10 : decode cX1_busiestNow 10 = .ok (.getfield 7, 3) := dk_180 0 7 (dk_at dksX1_busiestNow_0 10 rfl rfl)
theorem dX1_busiestNow_13 : decode cX1_busiestNow 13 = .ok (.if_icmp .ge 76, 3) := dk_162 0 76 (dk_at dksX1_busiestNow_0 13 rfl rfl)
theorem dX1_busiestNow_16 : decode cX1_busiestNow 16 = .ok (.iconst 0, 1) := dk_3 (dk_at dksX1_busiestNow_0 16 rfl rfl)
theorem dX1_busiestNow_17 : decode cX1_busiestNow 17 = .ok (.istore 5, 2) := dk_54 5 (dk_at dksX1_busiestNow_0 17 rfl rfl)
theorem dX1_busiestNow_19 : decode cX1_busiestNow 19 = .ok (.iload 5, 2) := dk_21 5 (dk_at dksX1_busiestNow_0 19 rfl rfl)
theorem dX1_busiestNow_21 : decode cX1_busiestNow 21 = .ok (.aload_n 0, 1) := dk_42 (dk_at dksX1_busiestNow_0 21 rfl rfl)
theorem dX1_busiestNow_22 : decode cX1_busiestNow 22 = .ok (.getfield 7, 3) := dk_180 0 7 (dk_at dksX1_busiestNow_1 0 rfl rfl)
theorem dX1_busiestNow_25 : decode cX1_busiestNow 25 = .ok (.if_icmp .ge 58, 3) := dk_162 0 58 (dk_at dksX1_busiestNow_1 3 rfl rfl)
theorem dX1_busiestNow_28 : decode cX1_busiestNow 28 = .ok (.aload_n 0, 1) := dk_42 (dk_at dksX1_busiestNow_1 6 rfl rfl)
theorem dX1_busiestNow_29 : decode cX1_busiestNow 29 = .ok (.getfield 50, 3) := dk_180 0 50 (dk_at dksX1_busiestNow_1 7 rfl rfl)
theorem dX1_busiestNow_32 : decode cX1_busiestNow 32 = .ok (.bipush 6, 2) := dk_16 6 (dk_at dksX1_busiestNow_1 10 rfl rfl)
theorem dX1_busiestNow_34 : decode cX1_busiestNow 34 = .ok (.iload 4, 2) := dk_21 4 (dk_at dksX1_busiestNow_1 12 rfl rfl)
theorem dX1_busiestNow_36 : decode cX1_busiestNow 36 = .ok (.imul, 1) := dk_104 (dk_at dksX1_busiestNow_1 14 rfl rfl)
theorem dX1_busiestNow_37 : decode cX1_busiestNow 37 = .ok (.iload 5, 2) := dk_21 5 (dk_at dksX1_busiestNow_1 15 rfl rfl)
theorem dX1_busiestNow_39 : decode cX1_busiestNow 39 = .ok (.iadd, 1) := dk_96 (dk_at dksX1_busiestNow_1 17 rfl rfl)
theorem dX1_busiestNow_40 : decode cX1_busiestNow 40 = .ok (.daload, 1) := dk_49 (dk_at dksX1_busiestNow_1 18 rfl rfl)
theorem dX1_busiestNow_41 : decode cX1_busiestNow 41 = .ok (.dstore 6, 2) := dk_57 6 (dk_at dksX1_busiestNow_1 19 rfl rfl)
theorem dX1_busiestNow_43 : decode cX1_busiestNow 43 = .ok (.dload 6, 2) := dk_24 6 (dk_at dksX1_busiestNow_1 21 rfl rfl)
theorem dX1_busiestNow_45 : decode cX1_busiestNow 45 = .ok (.dload_n 2, 1) := dk_40 (dk_at dksX1_busiestNow_1 23 rfl rfl)
theorem dX1_busiestNow_46 : decode cX1_busiestNow 46 = .ok (.dcmp .l, 1) := dk_151 (dk_at dksX1_busiestNow_2 0 rfl rfl)
theorem dX1_busiestNow_47 : decode cX1_busiestNow 47 = .ok (.ifCond .le 14, 3) := dk_158 0 14 (dk_at dksX1_busiestNow_2 1 rfl rfl)
theorem dX1_busiestNow_50 : decode cX1_busiestNow 50 = .ok (.bipush 10, 2) := dk_16 10 (dk_at dksX1_busiestNow_2 4 rfl rfl)
theorem dX1_busiestNow_52 : decode cX1_busiestNow 52 = .ok (.iload 4, 2) := dk_21 4 (dk_at dksX1_busiestNow_2 6 rfl rfl)
theorem dX1_busiestNow_54 : decode cX1_busiestNow 54 = .ok (.imul, 1) := dk_104 (dk_at dksX1_busiestNow_2 8 rfl rfl)
theorem dX1_busiestNow_55 : decode cX1_busiestNow 55 = .ok (.iload 5, 2) := dk_21 5 (dk_at dksX1_busiestNow_2 9 rfl rfl)
theorem dX1_busiestNow_57 : decode cX1_busiestNow 57 = .ok (.iadd, 1) := dk_96 (dk_at dksX1_busiestNow_2 11 rfl rfl)
theorem dX1_busiestNow_58 : decode cX1_busiestNow 58 = .ok (.goto 4, 3) := dk_167 0 4 (dk_at dksX1_busiestNow_2 12 rfl rfl)
theorem dX1_busiestNow_61 : decode cX1_busiestNow 61 = .ok (.iload_n 1, 1) := dk_27 (dk_at dksX1_busiestNow_2 15 rfl rfl)
theorem dX1_busiestNow_62 : decode cX1_busiestNow 62 = .ok (.istore_n 1, 1) := dk_60 (dk_at dksX1_busiestNow_2 16 rfl rfl)
theorem dX1_busiestNow_63 : decode cX1_busiestNow 63 = .ok (.dload 6, 2) := dk_24 6 (dk_at dksX1_busiestNow_2 17 rfl rfl)
theorem dX1_busiestNow_65 : decode cX1_busiestNow 65 = .ok (.dload_n 2, 1) := dk_40 (dk_at dksX1_busiestNow_2 19 rfl rfl)
theorem dX1_busiestNow_66 : decode cX1_busiestNow 66 = .ok (.dcmp .l, 1) := dk_151 (dk_at dksX1_busiestNow_2 20 rfl rfl)
theorem dX1_busiestNow_67 : decode cX1_busiestNow 67 = .ok (.ifCond .le 8, 3) := dk_158 0 8 (dk_at dksX1_busiestNow_2 21 rfl rfl)
theorem dX1_busiestNow_70 : decode cX1_busiestNow 70 = .ok (.dload 6, 2) := dk_24 6 (dk_at dksX1_busiestNow_3 0 rfl rfl)
theorem dX1_busiestNow_72 : decode cX1_busiestNow 72 = .ok (.goto 4, 3) := dk_167 0 4 (dk_at dksX1_busiestNow_3 2 rfl rfl)
theorem dX1_busiestNow_75 : decode cX1_busiestNow 75 = .ok (.dload_n 2, 1) := dk_40 (dk_at dksX1_busiestNow_3 5 rfl rfl)
theorem dX1_busiestNow_76 : decode cX1_busiestNow 76 = .ok (.dstore_n 2, 1) := dk_73 (dk_at dksX1_busiestNow_3 6 rfl rfl)
theorem dX1_busiestNow_77 : decode cX1_busiestNow 77 = .ok (.iinc 5 1, 3) := dk_132 5 1 (dk_at dksX1_busiestNow_3 7 rfl rfl)
theorem dX1_busiestNow_80 : decode cX1_busiestNow 80 = .ok (.goto (-61), 3) := dk_167 255 195 (dk_at dksX1_busiestNow_3 10 rfl rfl)
theorem dX1_busiestNow_83 : decode cX1_busiestNow 83 = .ok (.iinc 4 1, 3) := dk_132 4 1 (dk_at dksX1_busiestNow_3 13 rfl rfl)
theorem dX1_busiestNow_86 : decode cX1_busiestNow 86 = .ok (.goto (-79), 3) := dk_167 255 177 (dk_at dksX1_busiestNow_3 16 rfl rfl)
theorem dX1_busiestNow_89 : decode cX1_busiestNow 89 = .ok (.iload_n 1, 1) := dk_27 (dk_at dksX1_busiestNow_3 19 rfl rfl)
theorem dX1_busiestNow_90 : decode cX1_busiestNow 90 = .ok (.ireturn, 1) := dk_172 (dk_at dksX1_busiestNow_3 20 rfl rfl)
abbrev cX1_roundedMisfit : ByteArray := prog_1_method_45_code
def yX1_roundedMisfit : MethodName := ⟨RX1, "roundedMisfit", "()I"⟩
theorem dX1_roundedMisfit_0 : decode cX1_roundedMisfit 0 = .ok (.aload_n 0, 1) := by decide +kernel
theorem dX1_roundedMisfit_1 : decode cX1_roundedMisfit 1 = .ok (.invokevirtual 168, 3) := by decide +kernel
theorem dX1_roundedMisfit_4 : decode cX1_roundedMisfit 4 = .ok (.ireturn, 1) := by decide +kernel
abbrev cX1_roundedMisfitNow : ByteArray := prog_1_method_44_code
def yX1_roundedMisfitNow : MethodName := ⟨RX1, "roundedMisfitNow", "()I"⟩
def dkwX1_roundedMisfitNow_4 : List UInt8 := [167, 255, 229, 28, 172]
abbrev dktX1_roundedMisfitNow_4 : List UInt8 := dkwX1_roundedMisfitNow_4 ++ []
def dkwX1_roundedMisfitNow_3 : List UInt8 := [162, 0, 25, 28, 43, 29, 46, 42, 180, 0, 44, 29, 46, 100, 184, 0, 163, 96, 61, 132, 3, 1]
abbrev dktX1_roundedMisfitNow_3 : List UInt8 := dkwX1_roundedMisfitNow_3 ++ dktX1_roundedMisfitNow_4
def dkwX1_roundedMisfitNow_2 : List UInt8 := [46, 96, 79, 132, 4, 1, 167, 255, 230, 132, 2, 1, 167, 255, 203, 3, 61, 3, 62, 29, 42, 180, 0, 7]
abbrev dktX1_roundedMisfitNow_2 : List UInt8 := dkwX1_roundedMisfitNow_2 ++ dktX1_roundedMisfitNow_3
def dkwX1_roundedMisfitNow_1 : List UInt8 := [78, 3, 54, 4, 21, 4, 42, 180, 0, 7, 162, 0, 23, 43, 21, 4, 92, 46, 45, 180, 0, 160, 21, 4]
abbrev dktX1_roundedMisfitNow_1 : List UInt8 := dkwX1_roundedMisfitNow_1 ++ dktX1_roundedMisfitNow_2
def dkwX1_roundedMisfitNow_0 : List UInt8 := [16, 6, 188, 10, 76, 3, 61, 28, 42, 180, 0, 7, 162, 0, 51, 187, 0, 156, 89, 42, 28, 183, 0, 158]
abbrev dktX1_roundedMisfitNow_0 : List UInt8 := dkwX1_roundedMisfitNow_0 ++ dktX1_roundedMisfitNow_1
theorem dksX1_roundedMisfitNow_0 : cX1_roundedMisfitNow.data.toList.drop 0 = dktX1_roundedMisfitNow_0 := by decide +kernel
theorem dksX1_roundedMisfitNow_1 : cX1_roundedMisfitNow.data.toList.drop 24 = dktX1_roundedMisfitNow_1 := dk_seg dksX1_roundedMisfitNow_0 24 rfl rfl
theorem dksX1_roundedMisfitNow_2 : cX1_roundedMisfitNow.data.toList.drop 48 = dktX1_roundedMisfitNow_2 := dk_seg dksX1_roundedMisfitNow_1 24 rfl rfl
theorem dksX1_roundedMisfitNow_3 : cX1_roundedMisfitNow.data.toList.drop 72 = dktX1_roundedMisfitNow_3 := dk_seg dksX1_roundedMisfitNow_2 24 rfl rfl
theorem dksX1_roundedMisfitNow_4 : cX1_roundedMisfitNow.data.toList.drop 94 = dktX1_roundedMisfitNow_4 := dk_seg dksX1_roundedMisfitNow_3 22 rfl rfl
theorem dX1_roundedMisfitNow_0 : decode cX1_roundedMisfitNow 0 = .ok (.bipush 6, 2) := dk_16 6 (dk_at dksX1_roundedMisfitNow_0 0 rfl rfl)
theorem dX1_roundedMisfitNow_2 : decode cX1_roundedMisfitNow 2 = .ok (.newarray .int, 2) := dk_188_10 (dk_at dksX1_roundedMisfitNow_0 2 rfl rfl)
theorem dX1_roundedMisfitNow_4 : decode cX1_roundedMisfitNow 4 = .ok (.astore_n 1, 1) := dk_76 (dk_at dksX1_roundedMisfitNow_0 4 rfl rfl)
theorem dX1_roundedMisfitNow_5 : decode cX1_roundedMisfitNow 5 = .ok (.iconst 0, 1) := dk_3 (dk_at dksX1_roundedMisfitNow_0 5 rfl rfl)
theorem dX1_roundedMisfitNow_6 : decode cX1_roundedMisfitNow 6 = .ok (.istore_n 2, 1) := dk_61 (dk_at dksX1_roundedMisfitNow_0 6 rfl rfl)
theorem dX1_roundedMisfitNow_7 : decode cX1_roundedMisfitNow 7 = .ok (.iload_n 2, 1) := dk_28 (dk_at dksX1_roundedMisfitNow_0 7 rfl rfl)
theorem dX1_roundedMisfitNow_8 : decode cX1_roundedMisfitNow 8 = .ok (.aload_n 0, 1) := dk_42 (dk_at dksX1_roundedMisfitNow_0 8 rfl rfl)
theorem dX1_roundedMisfitNow_9 : decode cX1_roundedMisfitNow 9 = .ok (.getfield 7, 3) := dk_180 0 7 (dk_at dksX1_roundedMisfitNow_0 9 rfl rfl)
theorem dX1_roundedMisfitNow_12 : decode cX1_roundedMisfitNow 12 = .ok (.if_icmp .ge 51, 3) := dk_162 0 51 (dk_at dksX1_roundedMisfitNow_0 12 rfl rfl)
theorem dX1_roundedMisfitNow_15 : decode cX1_roundedMisfitNow 15 = .ok (.new 156, 3) := dk_187 0 156 (dk_at dksX1_roundedMisfitNow_0 15 rfl rfl)
theorem dX1_roundedMisfitNow_18 : decode cX1_roundedMisfitNow 18 = .ok (.dup, 1) := dk_89 (dk_at dksX1_roundedMisfitNow_0 18 rfl rfl)
theorem dX1_roundedMisfitNow_19 : decode cX1_roundedMisfitNow 19 = .ok (.aload_n 0, 1) := dk_42 (dk_at dksX1_roundedMisfitNow_0 19 rfl rfl)
theorem dX1_roundedMisfitNow_20 : decode cX1_roundedMisfitNow 20 = .ok (.iload_n 2, 1) := dk_28 (dk_at dksX1_roundedMisfitNow_0 20 rfl rfl)
theorem dX1_roundedMisfitNow_21 : decode cX1_roundedMisfitNow 21 = .ok (.invokespecial 158, 3) := dk_183 0 158 (dk_at dksX1_roundedMisfitNow_0 21 rfl rfl)
theorem dX1_roundedMisfitNow_24 : decode cX1_roundedMisfitNow 24 = .ok (.astore_n 3, 1) := dk_78 (dk_at dksX1_roundedMisfitNow_1 0 rfl rfl)
theorem dX1_roundedMisfitNow_25 : decode cX1_roundedMisfitNow 25 = .ok (.iconst 0, 1) := dk_3 (dk_at dksX1_roundedMisfitNow_1 1 rfl rfl)
theorem dX1_roundedMisfitNow_26 : decode cX1_roundedMisfitNow 26 = .ok (.istore 4, 2) := dk_54 4 (dk_at dksX1_roundedMisfitNow_1 2 rfl rfl)
theorem dX1_roundedMisfitNow_28 : decode cX1_roundedMisfitNow 28 = .ok (.iload 4, 2) := dk_21 4 (dk_at dksX1_roundedMisfitNow_1 4 rfl rfl)
theorem dX1_roundedMisfitNow_30 : decode cX1_roundedMisfitNow 30 = .ok (.aload_n 0, 1) := dk_42 (dk_at dksX1_roundedMisfitNow_1 6 rfl rfl)
theorem dX1_roundedMisfitNow_31 : decode cX1_roundedMisfitNow 31 = .ok (.getfield 7, 3) := dk_180 0 7 (dk_at dksX1_roundedMisfitNow_1 7 rfl rfl)
theorem dX1_roundedMisfitNow_34 : decode cX1_roundedMisfitNow 34 = .ok (.if_icmp .ge 23, 3) := dk_162 0 23 (dk_at dksX1_roundedMisfitNow_1 10 rfl rfl)
theorem dX1_roundedMisfitNow_37 : decode cX1_roundedMisfitNow 37 = .ok (.aload_n 1, 1) := dk_43 (dk_at dksX1_roundedMisfitNow_1 13 rfl rfl)
theorem dX1_roundedMisfitNow_38 : decode cX1_roundedMisfitNow 38 = .ok (.iload 4, 2) := dk_21 4 (dk_at dksX1_roundedMisfitNow_1 14 rfl rfl)
theorem dX1_roundedMisfitNow_40 : decode cX1_roundedMisfitNow 40 = .ok (.dup2, 1) := dk_92 (dk_at dksX1_roundedMisfitNow_1 16 rfl rfl)
theorem dX1_roundedMisfitNow_41 : decode cX1_roundedMisfitNow 41 = .ok (.iaload, 1) := dk_46 (dk_at dksX1_roundedMisfitNow_1 17 rfl rfl)
theorem dX1_roundedMisfitNow_42 : decode cX1_roundedMisfitNow 42 = .ok (.aload_n 3, 1) := dk_45 (dk_at dksX1_roundedMisfitNow_1 18 rfl rfl)
theorem dX1_roundedMisfitNow_43 : decode cX1_roundedMisfitNow 43 = .ok (.getfield 160, 3) := dk_180 0 160 (dk_at dksX1_roundedMisfitNow_1 19 rfl rfl)
theorem dX1_roundedMisfitNow_46 : decode cX1_roundedMisfitNow 46 = .ok (.iload 4, 2) := dk_21 4 (dk_at dksX1_roundedMisfitNow_1 22 rfl rfl)
theorem dX1_roundedMisfitNow_48 : decode cX1_roundedMisfitNow 48 = .ok (.iaload, 1) := dk_46 (dk_at dksX1_roundedMisfitNow_2 0 rfl rfl)
theorem dX1_roundedMisfitNow_49 : decode cX1_roundedMisfitNow 49 = .ok (.iadd, 1) := dk_96 (dk_at dksX1_roundedMisfitNow_2 1 rfl rfl)
theorem dX1_roundedMisfitNow_50 : decode cX1_roundedMisfitNow 50 = .ok (.iastore, 1) := dk_79 (dk_at dksX1_roundedMisfitNow_2 2 rfl rfl)
theorem dX1_roundedMisfitNow_51 : decode cX1_roundedMisfitNow 51 = .ok (.iinc 4 1, 3) := dk_132 4 1 (dk_at dksX1_roundedMisfitNow_2 3 rfl rfl)
theorem dX1_roundedMisfitNow_54 : decode cX1_roundedMisfitNow 54 = .ok (.goto (-26), 3) := dk_167 255 230 (dk_at dksX1_roundedMisfitNow_2 6 rfl rfl)
theorem dX1_roundedMisfitNow_57 : decode cX1_roundedMisfitNow 57 = .ok (.iinc 2 1, 3) := dk_132 2 1 (dk_at dksX1_roundedMisfitNow_2 9 rfl rfl)
theorem dX1_roundedMisfitNow_60 : decode cX1_roundedMisfitNow 60 = .ok (.goto (-53), 3) := dk_167 255 203 (dk_at dksX1_roundedMisfitNow_2 12 rfl rfl)
theorem dX1_roundedMisfitNow_63 : decode cX1_roundedMisfitNow 63 = .ok (.iconst 0, 1) := dk_3 (dk_at dksX1_roundedMisfitNow_2 15 rfl rfl)
theorem dX1_roundedMisfitNow_64 : decode cX1_roundedMisfitNow 64 = .ok (.istore_n 2, 1) := dk_61 (dk_at dksX1_roundedMisfitNow_2 16 rfl rfl)
theorem dX1_roundedMisfitNow_65 : decode cX1_roundedMisfitNow 65 = .ok (.iconst 0, 1) := dk_3 (dk_at dksX1_roundedMisfitNow_2 17 rfl rfl)
theorem dX1_roundedMisfitNow_66 : decode cX1_roundedMisfitNow 66 = .ok (.istore_n 3, 1) := dk_62 (dk_at dksX1_roundedMisfitNow_2 18 rfl rfl)
theorem dX1_roundedMisfitNow_67 : decode cX1_roundedMisfitNow 67 = .ok (.iload_n 3, 1) := dk_29 (dk_at dksX1_roundedMisfitNow_2 19 rfl rfl)
theorem dX1_roundedMisfitNow_68 : decode cX1_roundedMisfitNow 68 = .ok (.aload_n 0, 1) := dk_42 (dk_at dksX1_roundedMisfitNow_2 20 rfl rfl)
theorem dX1_roundedMisfitNow_69 : decode cX1_roundedMisfitNow 69 = .ok (.getfield 7, 3) := dk_180 0 7 (dk_at dksX1_roundedMisfitNow_2 21 rfl rfl)
theorem dX1_roundedMisfitNow_72 : decode cX1_roundedMisfitNow 72 = .ok (.if_icmp .ge 25, 3) := dk_162 0 25 (dk_at dksX1_roundedMisfitNow_3 0 rfl rfl)
theorem dX1_roundedMisfitNow_75 : decode cX1_roundedMisfitNow 75 = .ok (.iload_n 2, 1) := dk_28 (dk_at dksX1_roundedMisfitNow_3 3 rfl rfl)
theorem dX1_roundedMisfitNow_76 : decode cX1_roundedMisfitNow 76 = .ok (.aload_n 1, 1) := dk_43 (dk_at dksX1_roundedMisfitNow_3 4 rfl rfl)
theorem dX1_roundedMisfitNow_77 : decode cX1_roundedMisfitNow 77 = .ok (.iload_n 3, 1) := dk_29 (dk_at dksX1_roundedMisfitNow_3 5 rfl rfl)
theorem dX1_roundedMisfitNow_78 : decode cX1_roundedMisfitNow 78 = .ok (.iaload, 1) := dk_46 (dk_at dksX1_roundedMisfitNow_3 6 rfl rfl)
theorem dX1_roundedMisfitNow_79 : decode cX1_roundedMisfitNow 79 = .ok (.aload_n 0, 1) := dk_42 (dk_at dksX1_roundedMisfitNow_3 7 rfl rfl)
theorem dX1_roundedMisfitNow_80 : decode cX1_roundedMisfitNow 80 = .ok (.getfield 44, 3) := dk_180 0 44 (dk_at dksX1_roundedMisfitNow_3 8 rfl rfl)
theorem dX1_roundedMisfitNow_83 : decode cX1_roundedMisfitNow 83 = .ok (.iload_n 3, 1) := dk_29 (dk_at dksX1_roundedMisfitNow_3 11 rfl rfl)
theorem dX1_roundedMisfitNow_84 : decode cX1_roundedMisfitNow 84 = .ok (.iaload, 1) := dk_46 (dk_at dksX1_roundedMisfitNow_3 12 rfl rfl)
theorem dX1_roundedMisfitNow_85 : decode cX1_roundedMisfitNow 85 = .ok (.isub, 1) := dk_100 (dk_at dksX1_roundedMisfitNow_3 13 rfl rfl)
theorem dX1_roundedMisfitNow_86 : decode cX1_roundedMisfitNow 86 = .ok (.invokestatic 163, 3) := dk_184 0 163 (dk_at dksX1_roundedMisfitNow_3 14 rfl rfl)
theorem dX1_roundedMisfitNow_89 : decode cX1_roundedMisfitNow 89 = .ok (.iadd, 1) := dk_96 (dk_at dksX1_roundedMisfitNow_3 17 rfl rfl)
theorem dX1_roundedMisfitNow_90 : decode cX1_roundedMisfitNow 90 = .ok (.istore_n 2, 1) := dk_61 (dk_at dksX1_roundedMisfitNow_3 18 rfl rfl)
theorem dX1_roundedMisfitNow_91 : decode cX1_roundedMisfitNow 91 = .ok (.iinc 3 1, 3) := dk_132 3 1 (dk_at dksX1_roundedMisfitNow_3 19 rfl rfl)
theorem dX1_roundedMisfitNow_94 : decode cX1_roundedMisfitNow 94 = .ok (.goto (-27), 3) := dk_167 255 229 (dk_at dksX1_roundedMisfitNow_4 0 rfl rfl)
theorem dX1_roundedMisfitNow_97 : decode cX1_roundedMisfitNow 97 = .ok (.iload_n 2, 1) := dk_28 (dk_at dksX1_roundedMisfitNow_4 3 rfl rfl)
theorem dX1_roundedMisfitNow_98 : decode cX1_roundedMisfitNow 98 = .ok (.ireturn, 1) := dk_172 (dk_at dksX1_roundedMisfitNow_4 4 rfl rfl)
abbrev cX1_digest : ByteArray := prog_1_method_49_code
def yX1_digest : MethodName := ⟨RX1, "digest", "()J"⟩
def dkwX1_digest_5 : List UInt8 := [180, 0, 181, 173]
abbrev dktX1_digest_5 : List UInt8 := dkwX1_digest_5 ++ []
def dkwX1_digest_4 : List UInt8 := [107, 143, 182, 0, 185, 42, 42, 182, 0, 153, 133, 182, 0, 185, 42, 42, 182, 0, 168, 133, 182, 0, 185, 42]
abbrev dktX1_digest_4 : List UInt8 := dkwX1_digest_4 ++ dktX1_digest_5
def dkwX1_digest_3 : List UInt8 := [182, 0, 106, 133, 182, 0, 185, 42, 42, 180, 0, 60, 133, 182, 0, 185, 42, 42, 182, 0, 142, 20, 0, 140]
abbrev dktX1_digest_3 : List UInt8 := dkwX1_digest_3 ++ dktX1_digest_4
def dkwX1_digest_2 : List UInt8 := [182, 0, 185, 132, 1, 1, 167, 255, 223, 42, 182, 0, 193, 42, 42, 182, 0, 94, 133, 182, 0, 185, 42, 42]
abbrev dktX1_digest_2 : List UInt8 := dkwX1_digest_2 ++ dktX1_digest_3
def dkwX1_digest_1 : List UInt8 := [162, 0, 31, 42, 42, 180, 0, 40, 27, 46, 133, 182, 0, 185, 42, 42, 180, 0, 44, 27, 46, 133]
abbrev dktX1_digest_1 : List UInt8 := dkwX1_digest_1 ++ dktX1_digest_2
def dkwX1_digest_0 : List UInt8 := [42, 20, 0, 191, 181, 0, 181, 42, 42, 180, 0, 7, 133, 182, 0, 185, 3, 60, 27, 42, 180, 0, 7]
abbrev dktX1_digest_0 : List UInt8 := dkwX1_digest_0 ++ dktX1_digest_1
theorem dksX1_digest_0 : cX1_digest.data.toList.drop 0 = dktX1_digest_0 := by decide +kernel
theorem dksX1_digest_1 : cX1_digest.data.toList.drop 23 = dktX1_digest_1 := dk_seg dksX1_digest_0 23 rfl rfl
theorem dksX1_digest_2 : cX1_digest.data.toList.drop 45 = dktX1_digest_2 := dk_seg dksX1_digest_1 22 rfl rfl
theorem dksX1_digest_3 : cX1_digest.data.toList.drop 69 = dktX1_digest_3 := dk_seg dksX1_digest_2 24 rfl rfl
theorem dksX1_digest_4 : cX1_digest.data.toList.drop 93 = dktX1_digest_4 := dk_seg dksX1_digest_3 24 rfl rfl
theorem dksX1_digest_5 : cX1_digest.data.toList.drop 117 = dktX1_digest_5 := dk_seg dksX1_digest_4 24 rfl rfl
theorem dX1_digest_0 : decode cX1_digest 0 = .ok (.aload_n 0, 1) := dk_42 (dk_at dksX1_digest_0 0 rfl rfl)
theorem dX1_digest_1 : decode cX1_digest 1 = .ok (.ldc2_w 191, 3) := dk_20 0 191 (dk_at dksX1_digest_0 1 rfl rfl)
theorem dX1_digest_4 : decode cX1_digest 4 = .ok (.putfield 181, 3) := dk_181 0 181 (dk_at dksX1_digest_0 4 rfl rfl)
theorem dX1_digest_7 : decode cX1_digest 7 = .ok (.aload_n 0, 1) := dk_42 (dk_at dksX1_digest_0 7 rfl rfl)
theorem dX1_digest_8 : decode cX1_digest 8 = .ok (.aload_n 0, 1) := dk_42 (dk_at dksX1_digest_0 8 rfl rfl)
theorem dX1_digest_9 : decode cX1_digest 9 = .ok (.getfield 7, 3) := dk_180 0 7 (dk_at dksX1_digest_0 9 rfl rfl)
theorem dX1_digest_12 : decode cX1_digest 12 = .ok (.i2l, 1) := dk_133 (dk_at dksX1_digest_0 12 rfl rfl)
theorem dX1_digest_13 : decode cX1_digest 13 = .ok (.invokevirtual 185, 3) := dk_182 0 185 (dk_at dksX1_digest_0 13 rfl rfl)
theorem dX1_digest_16 : decode cX1_digest 16 = .ok (.iconst 0, 1) := dk_3 (dk_at dksX1_digest_0 16 rfl rfl)
theorem dX1_digest_17 : decode cX1_digest 17 = .ok (.istore_n 1, 1) := dk_60 (dk_at dksX1_digest_0 17 rfl rfl)
theorem dX1_digest_18 : decode cX1_digest 18 = .ok (.iload_n 1, 1) := dk_27 (dk_at dksX1_digest_0 18 rfl rfl)
theorem dX1_digest_19 : decode cX1_digest 19 = .ok (.aload_n 0, 1) := dk_42 (dk_at dksX1_digest_0 19 rfl rfl)
theorem dX1_digest_20 : decode cX1_digest 20 = .ok (.getfield 7, 3) := dk_180 0 7 (dk_at dksX1_digest_0 20 rfl rfl)
theorem dX1_digest_23 : decode cX1_digest 23 = .ok (.if_icmp .ge 31, 3) := dk_162 0 31 (dk_at dksX1_digest_1 0 rfl rfl)
theorem dX1_digest_26 : decode cX1_digest 26 = .ok (.aload_n 0, 1) := dk_42 (dk_at dksX1_digest_1 3 rfl rfl)
theorem dX1_digest_27 : decode cX1_digest 27 = .ok (.aload_n 0, 1) := dk_42 (dk_at dksX1_digest_1 4 rfl rfl)
theorem dX1_digest_28 : decode cX1_digest 28 = .ok (.getfield 40, 3) := dk_180 0 40 (dk_at dksX1_digest_1 5 rfl rfl)
theorem dX1_digest_31 : decode cX1_digest 31 = .ok (.iload_n 1, 1) := dk_27 (dk_at dksX1_digest_1 8 rfl rfl)
theorem dX1_digest_32 : decode cX1_digest 32 = .ok (.iaload, 1) := dk_46 (dk_at dksX1_digest_1 9 rfl rfl)
theorem dX1_digest_33 : decode cX1_digest 33 = .ok (.i2l, 1) := dk_133 (dk_at dksX1_digest_1 10 rfl rfl)
theorem dX1_digest_34 : decode cX1_digest 34 = .ok (.invokevirtual 185, 3) := dk_182 0 185 (dk_at dksX1_digest_1 11 rfl rfl)
theorem dX1_digest_37 : decode cX1_digest 37 = .ok (.aload_n 0, 1) := dk_42 (dk_at dksX1_digest_1 14 rfl rfl)
theorem dX1_digest_38 : decode cX1_digest 38 = .ok (.aload_n 0, 1) := dk_42 (dk_at dksX1_digest_1 15 rfl rfl)
theorem dX1_digest_39 : decode cX1_digest 39 = .ok (.getfield 44, 3) := dk_180 0 44 (dk_at dksX1_digest_1 16 rfl rfl)
theorem dX1_digest_42 : decode cX1_digest 42 = .ok (.iload_n 1, 1) := dk_27 (dk_at dksX1_digest_1 19 rfl rfl)
theorem dX1_digest_43 : decode cX1_digest 43 = .ok (.iaload, 1) := dk_46 (dk_at dksX1_digest_1 20 rfl rfl)
theorem dX1_digest_44 : decode cX1_digest 44 = .ok (.i2l, 1) := dk_133 (dk_at dksX1_digest_1 21 rfl rfl)
theorem dX1_digest_45 : decode cX1_digest 45 = .ok (.invokevirtual 185, 3) := dk_182 0 185 (dk_at dksX1_digest_2 0 rfl rfl)
theorem dX1_digest_48 : decode cX1_digest 48 = .ok (.iinc 1 1, 3) := dk_132 1 1 (dk_at dksX1_digest_2 3 rfl rfl)
theorem dX1_digest_51 : decode cX1_digest 51 = .ok (.goto (-33), 3) := dk_167 255 223 (dk_at dksX1_digest_2 6 rfl rfl)
theorem dX1_digest_54 : decode cX1_digest 54 = .ok (.aload_n 0, 1) := dk_42 (dk_at dksX1_digest_2 9 rfl rfl)
theorem dX1_digest_55 : decode cX1_digest 55 = .ok (.invokevirtual 193, 3) := dk_182 0 193 (dk_at dksX1_digest_2 10 rfl rfl)
theorem dX1_digest_58 : decode cX1_digest 58 = .ok (.aload_n 0, 1) := dk_42 (dk_at dksX1_digest_2 13 rfl rfl)
theorem dX1_digest_59 : decode cX1_digest 59 = .ok (.aload_n 0, 1) := dk_42 (dk_at dksX1_digest_2 14 rfl rfl)
theorem dX1_digest_60 : decode cX1_digest 60 = .ok (.invokevirtual 94, 3) := dk_182 0 94 (dk_at dksX1_digest_2 15 rfl rfl)
theorem dX1_digest_63 : decode cX1_digest 63 = .ok (.i2l, 1) := dk_133 (dk_at dksX1_digest_2 18 rfl rfl)
theorem dX1_digest_64 : decode cX1_digest 64 = .ok (.invokevirtual 185, 3) := dk_182 0 185 (dk_at dksX1_digest_2 19 rfl rfl)
theorem dX1_digest_67 : decode cX1_digest 67 = .ok (.aload_n 0, 1) := dk_42 (dk_at dksX1_digest_2 22 rfl rfl)
theorem dX1_digest_68 : decode cX1_digest 68 = .ok (.aload_n 0, 1) := dk_42 (dk_at dksX1_digest_2 23 rfl rfl)
theorem dX1_digest_69 : decode cX1_digest 69 = .ok (.invokevirtual 106, 3) := dk_182 0 106 (dk_at dksX1_digest_3 0 rfl rfl)
theorem dX1_digest_72 : decode cX1_digest 72 = .ok (.i2l, 1) := dk_133 (dk_at dksX1_digest_3 3 rfl rfl)
theorem dX1_digest_73 : decode cX1_digest 73 = .ok (.invokevirtual 185, 3) := dk_182 0 185 (dk_at dksX1_digest_3 4 rfl rfl)
theorem dX1_digest_76 : decode cX1_digest 76 = .ok (.aload_n 0, 1) := dk_42 (dk_at dksX1_digest_3 7 rfl rfl)
theorem dX1_digest_77 : decode cX1_digest 77 = .ok (.aload_n 0, 1) := dk_42 (dk_at dksX1_digest_3 8 rfl rfl)
theorem dX1_digest_78 : decode cX1_digest 78 = .ok (.getfield 60, 3) := dk_180 0 60 (dk_at dksX1_digest_3 9 rfl rfl)
theorem dX1_digest_81 : decode cX1_digest 81 = .ok (.i2l, 1) := dk_133 (dk_at dksX1_digest_3 12 rfl rfl)
theorem dX1_digest_82 : decode cX1_digest 82 = .ok (.invokevirtual 185, 3) := dk_182 0 185 (dk_at dksX1_digest_3 13 rfl rfl)
theorem dX1_digest_85 : decode cX1_digest 85 = .ok (.aload_n 0, 1) := dk_42 (dk_at dksX1_digest_3 16 rfl rfl)
theorem dX1_digest_86 : decode cX1_digest 86 = .ok (.aload_n 0, 1) := dk_42 (dk_at dksX1_digest_3 17 rfl rfl)
theorem dX1_digest_87 : decode cX1_digest 87 = .ok (.invokevirtual 142, 3) := dk_182 0 142 (dk_at dksX1_digest_3 18 rfl rfl)
theorem dX1_digest_90 : decode cX1_digest 90 = .ok (.ldc2_w 140, 3) := dk_20 0 140 (dk_at dksX1_digest_3 21 rfl rfl)
theorem dX1_digest_93 : decode cX1_digest 93 = .ok (.dmul, 1) := dk_107 (dk_at dksX1_digest_4 0 rfl rfl)
theorem dX1_digest_94 : decode cX1_digest 94 = .ok (.d2l, 1) := dk_143 (dk_at dksX1_digest_4 1 rfl rfl)
theorem dX1_digest_95 : decode cX1_digest 95 = .ok (.invokevirtual 185, 3) := dk_182 0 185 (dk_at dksX1_digest_4 2 rfl rfl)
theorem dX1_digest_98 : decode cX1_digest 98 = .ok (.aload_n 0, 1) := dk_42 (dk_at dksX1_digest_4 5 rfl rfl)
theorem dX1_digest_99 : decode cX1_digest 99 = .ok (.aload_n 0, 1) := dk_42 (dk_at dksX1_digest_4 6 rfl rfl)
theorem dX1_digest_100 : decode cX1_digest 100 = .ok (.invokevirtual 153, 3) := dk_182 0 153 (dk_at dksX1_digest_4 7 rfl rfl)
theorem dX1_digest_103 : decode cX1_digest 103 = .ok (.i2l, 1) := dk_133 (dk_at dksX1_digest_4 10 rfl rfl)
theorem dX1_digest_104 : decode cX1_digest 104 = .ok (.invokevirtual 185, 3) := dk_182 0 185 (dk_at dksX1_digest_4 11 rfl rfl)
theorem dX1_digest_107 : decode cX1_digest 107 = .ok (.aload_n 0, 1) := dk_42 (dk_at dksX1_digest_4 14 rfl rfl)
theorem dX1_digest_108 : decode cX1_digest 108 = .ok (.aload_n 0, 1) := dk_42 (dk_at dksX1_digest_4 15 rfl rfl)
theorem dX1_digest_109 : decode cX1_digest 109 = .ok (.invokevirtual 168, 3) := dk_182 0 168 (dk_at dksX1_digest_4 16 rfl rfl)
theorem dX1_digest_112 : decode cX1_digest 112 = .ok (.i2l, 1) := dk_133 (dk_at dksX1_digest_4 19 rfl rfl)
theorem dX1_digest_113 : decode cX1_digest 113 = .ok (.invokevirtual 185, 3) := dk_182 0 185 (dk_at dksX1_digest_4 20 rfl rfl)
theorem dX1_digest_116 : decode cX1_digest 116 = .ok (.aload_n 0, 1) := dk_42 (dk_at dksX1_digest_4 23 rfl rfl)
theorem dX1_digest_117 : decode cX1_digest 117 = .ok (.getfield 181, 3) := dk_180 0 181 (dk_at dksX1_digest_5 0 rfl rfl)
theorem dX1_digest_120 : decode cX1_digest 120 = .ok (.lreturn, 1) := dk_173 (dk_at dksX1_digest_5 3 rfl rfl)
abbrev cX1_mix : ByteArray := prog_1_method_47_code
def yX1_mix : MethodName := ⟨RX1, "mix", "(J)V"⟩
def dkwX1_mix_0 : List UInt8 := [42, 20, 0, 179, 42, 180, 0, 181, 105, 31, 97, 181, 0, 181, 177]
abbrev dktX1_mix_0 : List UInt8 := dkwX1_mix_0 ++ []
theorem dksX1_mix_0 : cX1_mix.data.toList.drop 0 = dktX1_mix_0 := by decide +kernel
theorem dX1_mix_0 : decode cX1_mix 0 = .ok (.aload_n 0, 1) := dk_42 (dk_at dksX1_mix_0 0 rfl rfl)
theorem dX1_mix_1 : decode cX1_mix 1 = .ok (.ldc2_w 179, 3) := dk_20 0 179 (dk_at dksX1_mix_0 1 rfl rfl)
theorem dX1_mix_4 : decode cX1_mix 4 = .ok (.aload_n 0, 1) := dk_42 (dk_at dksX1_mix_0 4 rfl rfl)
theorem dX1_mix_5 : decode cX1_mix 5 = .ok (.getfield 181, 3) := dk_180 0 181 (dk_at dksX1_mix_0 5 rfl rfl)
theorem dX1_mix_8 : decode cX1_mix 8 = .ok (.lmul, 1) := dk_105 (dk_at dksX1_mix_0 8 rfl rfl)
theorem dX1_mix_9 : decode cX1_mix 9 = .ok (.lload_n 1, 1) := dk_31 (dk_at dksX1_mix_0 9 rfl rfl)
theorem dX1_mix_10 : decode cX1_mix 10 = .ok (.ladd, 1) := dk_97 (dk_at dksX1_mix_0 10 rfl rfl)
theorem dX1_mix_11 : decode cX1_mix 11 = .ok (.putfield 181, 3) := dk_181 0 181 (dk_at dksX1_mix_0 11 rfl rfl)
theorem dX1_mix_14 : decode cX1_mix 14 = .ok (.return_, 1) := dk_177 (dk_at dksX1_mix_0 14 rfl rfl)
abbrev cX1_mixTurns : ByteArray := prog_1_method_48_code
def yX1_mixTurns : MethodName := ⟨RX1, "mixTurns", "()V"⟩
def dkwX1_mixTurns_5 : List UInt8 := [46, 133, 182, 0, 185, 132, 4, 1, 167, 255, 173, 132, 2, 1, 167, 255, 146, 177]
abbrev dktX1_mixTurns_5 : List UInt8 := dkwX1_mixTurns_5 ++ []
def dkwX1_mixTurns_4 : List UInt8 := [21, 4, 46, 133, 182, 0, 185, 42, 43, 199, 0, 9, 20, 0, 189, 167, 0, 11, 43, 180, 0, 176, 21, 5]
abbrev dktX1_mixTurns_4 : List UInt8 := dkwX1_mixTurns_4 ++ dktX1_mixTurns_5
def dkwX1_mixTurns_3 : List UInt8 := [182, 0, 185, 42, 42, 180, 0, 50, 21, 5, 49, 20, 0, 140, 107, 143, 182, 0, 185, 42, 45, 180, 0, 160]
abbrev dktX1_mixTurns_3 : List UInt8 := dkwX1_mixTurns_3 ++ dktX1_mixTurns_4
def dkwX1_mixTurns_2 : List UInt8 := [180, 0, 7, 162, 0, 80, 16, 6, 28, 104, 21, 4, 96, 54, 5, 42, 42, 180, 0, 47, 21, 5, 46, 133]
abbrev dktX1_mixTurns_2 : List UInt8 := dkwX1_mixTurns_2 ++ dktX1_mixTurns_3
def dkwX1_mixTurns_1 : List UInt8 := [180, 0, 7, 162, 0, 108, 187, 0, 156, 89, 42, 28, 183, 0, 158, 78, 3, 54, 4, 21, 4, 42]
abbrev dktX1_mixTurns_1 : List UInt8 := dkwX1_mixTurns_1 ++ dktX1_mixTurns_2
def dkwX1_mixTurns_0 : List UInt8 := [42, 182, 0, 109, 153, 0, 14, 187, 0, 171, 89, 42, 183, 0, 173, 167, 0, 4, 1, 76, 3, 61, 28, 42]
abbrev dktX1_mixTurns_0 : List UInt8 := dkwX1_mixTurns_0 ++ dktX1_mixTurns_1
theorem dksX1_mixTurns_0 : cX1_mixTurns.data.toList.drop 0 = dktX1_mixTurns_0 := by decide +kernel
theorem dksX1_mixTurns_1 : cX1_mixTurns.data.toList.drop 24 = dktX1_mixTurns_1 := dk_seg dksX1_mixTurns_0 24 rfl rfl
theorem dksX1_mixTurns_2 : cX1_mixTurns.data.toList.drop 46 = dktX1_mixTurns_2 := dk_seg dksX1_mixTurns_1 22 rfl rfl
theorem dksX1_mixTurns_3 : cX1_mixTurns.data.toList.drop 70 = dktX1_mixTurns_3 := dk_seg dksX1_mixTurns_2 24 rfl rfl
theorem dksX1_mixTurns_4 : cX1_mixTurns.data.toList.drop 94 = dktX1_mixTurns_4 := dk_seg dksX1_mixTurns_3 24 rfl rfl
theorem dksX1_mixTurns_5 : cX1_mixTurns.data.toList.drop 118 = dktX1_mixTurns_5 := dk_seg dksX1_mixTurns_4 24 rfl rfl
theorem dX1_mixTurns_0 : decode cX1_mixTurns 0 = .ok (.aload_n 0, 1) := dk_42 (dk_at dksX1_mixTurns_0 0 rfl rfl)
theorem dX1_mixTurns_1 : decode cX1_mixTurns 1 = .ok (.invokevirtual 109, 3) := dk_182 0 109 (dk_at dksX1_mixTurns_0 1 rfl rfl)
theorem dX1_mixTurns_4 : decode cX1_mixTurns 4 = .ok (.ifCond .eq 14, 3) := dk_153 0 14 (dk_at dksX1_mixTurns_0 4 rfl rfl)
theorem dX1_mixTurns_7 : decode cX1_mixTurns 7 = .ok (.new 171, 3) := dk_187 0 171 (dk_at dksX1_mixTurns_0 7 rfl rfl)
theorem dX1_mixTurns_10 : decode cX1_mixTurns 10 = .ok (.dup, 1) := dk_89 (dk_at dksX1_mixTurns_0 10 rfl rfl)
theorem dX1_mixTurns_11 : decode cX1_mixTurns 11 = .ok (.aload_n 0, 1) := dk_42 (dk_at dksX1_mixTurns_0 11 rfl rfl)
theorem dX1_mixTurns_12 : decode cX1_mixTurns 12 = .ok (.invokespecial 173, 3) := dk_183 0 173 (dk_at dksX1_mixTurns_0 12 rfl rfl)
theorem dX1_mixTurns_15 : decode cX1_mixTurns 15 = .ok (.goto 4, 3) := dk_167 0 4 (dk_at dksX1_mixTurns_0 15 rfl rfl)
theorem dX1_mixTurns_18 : decode cX1_mixTurns 18 = .ok (.aconst_null, 1) := dk_1 (dk_at dksX1_mixTurns_0 18 rfl rfl)
theorem dX1_mixTurns_19 : decode cX1_mixTurns 19 = .ok (.astore_n 1, 1) := dk_76 (dk_at dksX1_mixTurns_0 19 rfl rfl)
theorem dX1_mixTurns_20 : decode cX1_mixTurns 20 = .ok (.iconst 0, 1) := dk_3 (dk_at dksX1_mixTurns_0 20 rfl rfl)
theorem dX1_mixTurns_21 : decode cX1_mixTurns 21 = .ok (.istore_n 2, 1) := dk_61 (dk_at dksX1_mixTurns_0 21 rfl rfl)
theorem dX1_mixTurns_22 : decode cX1_mixTurns 22 = .ok (.iload_n 2, 1) := dk_28 (dk_at dksX1_mixTurns_0 22 rfl rfl)
theorem dX1_mixTurns_23 : decode cX1_mixTurns 23 = .ok (.aload_n 0, 1) := dk_42 (dk_at dksX1_mixTurns_0 23 rfl rfl)
theorem dX1_mixTurns_24 : decode cX1_mixTurns 24 = .ok (.getfield 7, 3) := dk_180 0 7 (dk_at dksX1_mixTurns_1 0 rfl rfl)
theorem dX1_mixTurns_27 : decode cX1_mixTurns 27 = .ok (.if_icmp .ge 108, 3) := dk_162 0 108 (dk_at dksX1_mixTurns_1 3 rfl rfl)
theorem dX1_mixTurns_30 : decode cX1_mixTurns 30 = .ok (.new 156, 3) := dk_187 0 156 (dk_at dksX1_mixTurns_1 6 rfl rfl)
theorem dX1_mixTurns_33 : decode cX1_mixTurns 33 = .ok (.dup, 1) := dk_89 (dk_at dksX1_mixTurns_1 9 rfl rfl)
theorem dX1_mixTurns_34 : decode cX1_mixTurns 34 = .ok (.aload_n 0, 1) := dk_42 (dk_at dksX1_mixTurns_1 10 rfl rfl)
theorem dX1_mixTurns_35 : decode cX1_mixTurns 35 = .ok (.iload_n 2, 1) := dk_28 (dk_at dksX1_mixTurns_1 11 rfl rfl)
theorem dX1_mixTurns_36 : decode cX1_mixTurns 36 = .ok (.invokespecial 158, 3) := dk_183 0 158 (dk_at dksX1_mixTurns_1 12 rfl rfl)
theorem dX1_mixTurns_39 : decode cX1_mixTurns 39 = .ok (.astore_n 3, 1) := dk_78 (dk_at dksX1_mixTurns_1 15 rfl rfl)
theorem dX1_mixTurns_40 : decode cX1_mixTurns 40 = .ok (.iconst 0, 1) := dk_3 (dk_at dksX1_mixTurns_1 16 rfl rfl)
theorem dX1_mixTurns_41 : decode cX1_mixTurns 41 = .ok (.istore 4, 2) := dk_54 4 (dk_at dksX1_mixTurns_1 17 rfl rfl)
theorem dX1_mixTurns_43 : decode cX1_mixTurns 43 = .ok (.iload 4, 2) := dk_21 4 (dk_at dksX1_mixTurns_1 19 rfl rfl)
theorem dX1_mixTurns_45 : decode cX1_mixTurns 45 = .ok (.aload_n 0, 1) := dk_42 (dk_at dksX1_mixTurns_1 21 rfl rfl)
theorem dX1_mixTurns_46 : decode cX1_mixTurns 46 = .ok (.getfield 7, 3) := dk_180 0 7 (dk_at dksX1_mixTurns_2 0 rfl rfl)
theorem dX1_mixTurns_49 : decode cX1_mixTurns 49 = .ok (.if_icmp .ge 80, 3) := dk_162 0 80 (dk_at dksX1_mixTurns_2 3 rfl rfl)
theorem dX1_mixTurns_52 : decode cX1_mixTurns 52 = .ok (.bipush 6, 2) := dk_16 6 (dk_at dksX1_mixTurns_2 6 rfl rfl)
theorem dX1_mixTurns_54 : decode cX1_mixTurns 54 = .ok (.iload_n 2, 1) := dk_28 (dk_at dksX1_mixTurns_2 8 rfl rfl)
theorem dX1_mixTurns_55 : decode cX1_mixTurns 55 = .ok (.imul, 1) := dk_104 (dk_at dksX1_mixTurns_2 9 rfl rfl)
theorem dX1_mixTurns_56 : decode cX1_mixTurns 56 = .ok (.iload 4, 2) := dk_21 4 (dk_at dksX1_mixTurns_2 10 rfl rfl)
theorem dX1_mixTurns_58 : decode cX1_mixTurns 58 = .ok (.iadd, 1) := dk_96 (dk_at dksX1_mixTurns_2 12 rfl rfl)
theorem dX1_mixTurns_59 : decode cX1_mixTurns 59 = .ok (.istore 5, 2) := dk_54 5 (dk_at dksX1_mixTurns_2 13 rfl rfl)
theorem dX1_mixTurns_61 : decode cX1_mixTurns 61 = .ok (.aload_n 0, 1) := dk_42 (dk_at dksX1_mixTurns_2 15 rfl rfl)
theorem dX1_mixTurns_62 : decode cX1_mixTurns 62 = .ok (.aload_n 0, 1) := dk_42 (dk_at dksX1_mixTurns_2 16 rfl rfl)
theorem dX1_mixTurns_63 : decode cX1_mixTurns 63 = .ok (.getfield 47, 3) := dk_180 0 47 (dk_at dksX1_mixTurns_2 17 rfl rfl)
theorem dX1_mixTurns_66 : decode cX1_mixTurns 66 = .ok (.iload 5, 2) := dk_21 5 (dk_at dksX1_mixTurns_2 20 rfl rfl)
theorem dX1_mixTurns_68 : decode cX1_mixTurns 68 = .ok (.iaload, 1) := dk_46 (dk_at dksX1_mixTurns_2 22 rfl rfl)
theorem dX1_mixTurns_69 : decode cX1_mixTurns 69 = .ok (.i2l, 1) := dk_133 (dk_at dksX1_mixTurns_2 23 rfl rfl)
theorem dX1_mixTurns_70 : decode cX1_mixTurns 70 = .ok (.invokevirtual 185, 3) := dk_182 0 185 (dk_at dksX1_mixTurns_3 0 rfl rfl)
theorem dX1_mixTurns_73 : decode cX1_mixTurns 73 = .ok (.aload_n 0, 1) := dk_42 (dk_at dksX1_mixTurns_3 3 rfl rfl)
theorem dX1_mixTurns_74 : decode cX1_mixTurns 74 = .ok (.aload_n 0, 1) := dk_42 (dk_at dksX1_mixTurns_3 4 rfl rfl)
theorem dX1_mixTurns_75 : decode cX1_mixTurns 75 = .ok (.getfield 50, 3) := dk_180 0 50 (dk_at dksX1_mixTurns_3 5 rfl rfl)
theorem dX1_mixTurns_78 : decode cX1_mixTurns 78 = .ok (.iload 5, 2) := dk_21 5 (dk_at dksX1_mixTurns_3 8 rfl rfl)
theorem dX1_mixTurns_80 : decode cX1_mixTurns 80 = .ok (.daload, 1) := dk_49 (dk_at dksX1_mixTurns_3 10 rfl rfl)
theorem dX1_mixTurns_81 : decode cX1_mixTurns 81 = .ok (.ldc2_w 140, 3) := dk_20 0 140 (dk_at dksX1_mixTurns_3 11 rfl rfl)
theorem dX1_mixTurns_84 : decode cX1_mixTurns 84 = .ok (.dmul, 1) := dk_107 (dk_at dksX1_mixTurns_3 14 rfl rfl)
theorem dX1_mixTurns_85 : decode cX1_mixTurns 85 = .ok (.d2l, 1) := dk_143 (dk_at dksX1_mixTurns_3 15 rfl rfl)
theorem dX1_mixTurns_86 : decode cX1_mixTurns 86 = .ok (.invokevirtual 185, 3) := dk_182 0 185 (dk_at dksX1_mixTurns_3 16 rfl rfl)
theorem dX1_mixTurns_89 : decode cX1_mixTurns 89 = .ok (.aload_n 0, 1) := dk_42 (dk_at dksX1_mixTurns_3 19 rfl rfl)
theorem dX1_mixTurns_90 : decode cX1_mixTurns 90 = .ok (.aload_n 3, 1) := dk_45 (dk_at dksX1_mixTurns_3 20 rfl rfl)
theorem dX1_mixTurns_91 : decode cX1_mixTurns 91 = .ok (.getfield 160, 3) := dk_180 0 160 (dk_at dksX1_mixTurns_3 21 rfl rfl)
theorem dX1_mixTurns_94 : decode cX1_mixTurns 94 = .ok (.iload 4, 2) := dk_21 4 (dk_at dksX1_mixTurns_4 0 rfl rfl)
theorem dX1_mixTurns_96 : decode cX1_mixTurns 96 = .ok (.iaload, 1) := dk_46 (dk_at dksX1_mixTurns_4 2 rfl rfl)
theorem dX1_mixTurns_97 : decode cX1_mixTurns 97 = .ok (.i2l, 1) := dk_133 (dk_at dksX1_mixTurns_4 3 rfl rfl)
theorem dX1_mixTurns_98 : decode cX1_mixTurns 98 = .ok (.invokevirtual 185, 3) := dk_182 0 185 (dk_at dksX1_mixTurns_4 4 rfl rfl)
theorem dX1_mixTurns_101 : decode cX1_mixTurns 101 = .ok (.aload_n 0, 1) := dk_42 (dk_at dksX1_mixTurns_4 7 rfl rfl)
theorem dX1_mixTurns_102 : decode cX1_mixTurns 102 = .ok (.aload_n 1, 1) := dk_43 (dk_at dksX1_mixTurns_4 8 rfl rfl)
theorem dX1_mixTurns_103 : decode cX1_mixTurns 103 = .ok (.ifnonnull 9, 3) := dk_199 0 9 (dk_at dksX1_mixTurns_4 9 rfl rfl)
theorem dX1_mixTurns_106 : decode cX1_mixTurns 106 = .ok (.ldc2_w 189, 3) := dk_20 0 189 (dk_at dksX1_mixTurns_4 12 rfl rfl)
theorem dX1_mixTurns_109 : decode cX1_mixTurns 109 = .ok (.goto 11, 3) := dk_167 0 11 (dk_at dksX1_mixTurns_4 15 rfl rfl)
theorem dX1_mixTurns_112 : decode cX1_mixTurns 112 = .ok (.aload_n 1, 1) := dk_43 (dk_at dksX1_mixTurns_4 18 rfl rfl)
theorem dX1_mixTurns_113 : decode cX1_mixTurns 113 = .ok (.getfield 176, 3) := dk_180 0 176 (dk_at dksX1_mixTurns_4 19 rfl rfl)
theorem dX1_mixTurns_116 : decode cX1_mixTurns 116 = .ok (.iload 5, 2) := dk_21 5 (dk_at dksX1_mixTurns_4 22 rfl rfl)
theorem dX1_mixTurns_118 : decode cX1_mixTurns 118 = .ok (.iaload, 1) := dk_46 (dk_at dksX1_mixTurns_5 0 rfl rfl)
theorem dX1_mixTurns_119 : decode cX1_mixTurns 119 = .ok (.i2l, 1) := dk_133 (dk_at dksX1_mixTurns_5 1 rfl rfl)
theorem dX1_mixTurns_120 : decode cX1_mixTurns 120 = .ok (.invokevirtual 185, 3) := dk_182 0 185 (dk_at dksX1_mixTurns_5 2 rfl rfl)
theorem dX1_mixTurns_123 : decode cX1_mixTurns 123 = .ok (.iinc 4 1, 3) := dk_132 4 1 (dk_at dksX1_mixTurns_5 5 rfl rfl)
theorem dX1_mixTurns_126 : decode cX1_mixTurns 126 = .ok (.goto (-83), 3) := dk_167 255 173 (dk_at dksX1_mixTurns_5 8 rfl rfl)
theorem dX1_mixTurns_129 : decode cX1_mixTurns 129 = .ok (.iinc 2 1, 3) := dk_132 2 1 (dk_at dksX1_mixTurns_5 11 rfl rfl)
theorem dX1_mixTurns_132 : decode cX1_mixTurns 132 = .ok (.goto (-110), 3) := dk_167 255 146 (dk_at dksX1_mixTurns_5 14 rfl rfl)
theorem dX1_mixTurns_135 : decode cX1_mixTurns 135 = .ok (.return_, 1) := dk_177 (dk_at dksX1_mixTurns_5 17 rfl rfl)
abbrev cX1_setArms : ByteArray := prog_1_method_9_code
def yX1_setArms : MethodName := ⟨RX1, "setArms", "(I)I"⟩
def dkwX1_setArms_0 : List UInt8 := [27, 6, 16, 6, 184, 0, 13, 184, 0, 63, 42, 180, 0, 7, 61, 42, 27, 182, 0, 54, 28, 172]
abbrev dktX1_setArms_0 : List UInt8 := dkwX1_setArms_0 ++ []
theorem dksX1_setArms_0 : cX1_setArms.data.toList.drop 0 = dktX1_setArms_0 := by decide +kernel
theorem dX1_setArms_0 : decode cX1_setArms 0 = .ok (.iload_n 1, 1) := dk_27 (dk_at dksX1_setArms_0 0 rfl rfl)
theorem dX1_setArms_1 : decode cX1_setArms 1 = .ok (.iconst 3, 1) := dk_6 (dk_at dksX1_setArms_0 1 rfl rfl)
theorem dX1_setArms_2 : decode cX1_setArms 2 = .ok (.bipush 6, 2) := dk_16 6 (dk_at dksX1_setArms_0 2 rfl rfl)
theorem dX1_setArms_4 : decode cX1_setArms 4 = .ok (.invokestatic 13, 3) := dk_184 0 13 (dk_at dksX1_setArms_0 4 rfl rfl)
theorem dX1_setArms_7 : decode cX1_setArms 7 = .ok (.invokestatic 63, 3) := dk_184 0 63 (dk_at dksX1_setArms_0 7 rfl rfl)
theorem dX1_setArms_10 : decode cX1_setArms 10 = .ok (.aload_n 0, 1) := dk_42 (dk_at dksX1_setArms_0 10 rfl rfl)
theorem dX1_setArms_11 : decode cX1_setArms 11 = .ok (.getfield 7, 3) := dk_180 0 7 (dk_at dksX1_setArms_0 11 rfl rfl)
theorem dX1_setArms_14 : decode cX1_setArms 14 = .ok (.istore_n 2, 1) := dk_61 (dk_at dksX1_setArms_0 14 rfl rfl)
theorem dX1_setArms_15 : decode cX1_setArms 15 = .ok (.aload_n 0, 1) := dk_42 (dk_at dksX1_setArms_0 15 rfl rfl)
theorem dX1_setArms_16 : decode cX1_setArms 16 = .ok (.iload_n 1, 1) := dk_27 (dk_at dksX1_setArms_0 16 rfl rfl)
theorem dX1_setArms_17 : decode cX1_setArms 17 = .ok (.invokevirtual 54, 3) := dk_182 0 54 (dk_at dksX1_setArms_0 17 rfl rfl)
theorem dX1_setArms_20 : decode cX1_setArms 20 = .ok (.iload_n 2, 1) := dk_28 (dk_at dksX1_setArms_0 20 rfl rfl)
theorem dX1_setArms_21 : decode cX1_setArms 21 = .ok (.ireturn, 1) := dk_172 (dk_at dksX1_setArms_0 21 rfl rfl)
abbrev cX1_inRange : ByteArray := prog_1_method_1_code
def yX1_inRange : MethodName := ⟨RX1, "inRange", "(III)Z"⟩
def dkwX1_inRange_0 : List UInt8 := [26, 27, 161, 0, 12, 26, 28, 163, 0, 7, 4, 167, 0, 4, 3, 172]
abbrev dktX1_inRange_0 : List UInt8 := dkwX1_inRange_0 ++ []
theorem dksX1_inRange_0 : cX1_inRange.data.toList.drop 0 = dktX1_inRange_0 := by decide +kernel
theorem dX1_inRange_0 : decode cX1_inRange 0 = .ok (.iload_n 0, 1) := dk_26 (dk_at dksX1_inRange_0 0 rfl rfl)
theorem dX1_inRange_1 : decode cX1_inRange 1 = .ok (.iload_n 1, 1) := dk_27 (dk_at dksX1_inRange_0 1 rfl rfl)
theorem dX1_inRange_2 : decode cX1_inRange 2 = .ok (.if_icmp .lt 12, 3) := dk_161 0 12 (dk_at dksX1_inRange_0 2 rfl rfl)
theorem dX1_inRange_5 : decode cX1_inRange 5 = .ok (.iload_n 0, 1) := dk_26 (dk_at dksX1_inRange_0 5 rfl rfl)
theorem dX1_inRange_6 : decode cX1_inRange 6 = .ok (.iload_n 2, 1) := dk_28 (dk_at dksX1_inRange_0 6 rfl rfl)
theorem dX1_inRange_7 : decode cX1_inRange 7 = .ok (.if_icmp .gt 7, 3) := dk_163 0 7 (dk_at dksX1_inRange_0 7 rfl rfl)
theorem dX1_inRange_10 : decode cX1_inRange 10 = .ok (.iconst 1, 1) := dk_4 (dk_at dksX1_inRange_0 10 rfl rfl)
theorem dX1_inRange_11 : decode cX1_inRange 11 = .ok (.goto 4, 3) := dk_167 0 4 (dk_at dksX1_inRange_0 11 rfl rfl)
theorem dX1_inRange_14 : decode cX1_inRange 14 = .ok (.iconst 0, 1) := dk_3 (dk_at dksX1_inRange_0 14 rfl rfl)
theorem dX1_inRange_15 : decode cX1_inRange 15 = .ok (.ireturn, 1) := dk_172 (dk_at dksX1_inRange_0 15 rfl rfl)
abbrev cX1_require : ByteArray := prog_1_method_2_code
def yX1_require : MethodName := ⟨RX1, "require", "(Z)V"⟩
def dkwX1_require_0 : List UInt8 := [26, 154, 0, 11, 187, 0, 1, 89, 183, 0, 3, 191, 177]
abbrev dktX1_require_0 : List UInt8 := dkwX1_require_0 ++ []
theorem dksX1_require_0 : cX1_require.data.toList.drop 0 = dktX1_require_0 := by decide +kernel
theorem dX1_require_0 : decode cX1_require 0 = .ok (.iload_n 0, 1) := dk_26 (dk_at dksX1_require_0 0 rfl rfl)
theorem dX1_require_1 : decode cX1_require 1 = .ok (.ifCond .ne 11, 3) := dk_154 0 11 (dk_at dksX1_require_0 1 rfl rfl)
theorem dX1_require_4 : decode cX1_require 4 = .ok (.new 1, 3) := dk_187 0 1 (dk_at dksX1_require_0 4 rfl rfl)
theorem dX1_require_7 : decode cX1_require 7 = .ok (.dup, 1) := dk_89 (dk_at dksX1_require_0 7 rfl rfl)
theorem dX1_require_8 : decode cX1_require 8 = .ok (.invokespecial 3, 3) := dk_183 0 3 (dk_at dksX1_require_0 8 rfl rfl)
theorem dX1_require_11 : decode cX1_require 11 = .ok (.athrow, 1) := dk_191 (dk_at dksX1_require_0 11 rfl rfl)
theorem dX1_require_12 : decode cX1_require 12 = .ok (.return_, 1) := dk_177 (dk_at dksX1_require_0 12 rfl rfl)
abbrev cX1_setInflow : ByteArray := prog_1_method_12_code
def yX1_setInflow : MethodName := ⟨RX1, "setInflow", "(II)I"⟩
def dkwX1_setInflow_0 : List UInt8 := [42, 42, 180, 0, 40, 27, 28, 182, 0, 67, 172]
abbrev dktX1_setInflow_0 : List UInt8 := dkwX1_setInflow_0 ++ []
theorem dksX1_setInflow_0 : cX1_setInflow.data.toList.drop 0 = dktX1_setInflow_0 := by decide +kernel
theorem dX1_setInflow_0 : decode cX1_setInflow 0 = .ok (.aload_n 0, 1) := dk_42 (dk_at dksX1_setInflow_0 0 rfl rfl)
theorem dX1_setInflow_1 : decode cX1_setInflow 1 = .ok (.aload_n 0, 1) := dk_42 (dk_at dksX1_setInflow_0 1 rfl rfl)
theorem dX1_setInflow_2 : decode cX1_setInflow 2 = .ok (.getfield 40, 3) := dk_180 0 40 (dk_at dksX1_setInflow_0 2 rfl rfl)
theorem dX1_setInflow_5 : decode cX1_setInflow 5 = .ok (.iload_n 1, 1) := dk_27 (dk_at dksX1_setInflow_0 5 rfl rfl)
theorem dX1_setInflow_6 : decode cX1_setInflow 6 = .ok (.iload_n 2, 1) := dk_28 (dk_at dksX1_setInflow_0 6 rfl rfl)
theorem dX1_setInflow_7 : decode cX1_setInflow 7 = .ok (.invokevirtual 67, 3) := dk_182 0 67 (dk_at dksX1_setInflow_0 7 rfl rfl)
theorem dX1_setInflow_10 : decode cX1_setInflow 10 = .ok (.ireturn, 1) := dk_172 (dk_at dksX1_setInflow_0 10 rfl rfl)
abbrev cX1_setCount : ByteArray := prog_1_method_11_code
def yX1_setCount : MethodName := ⟨RX1, "setCount", "([III)I"⟩
def dkwX1_setCount_1 : List UInt8 := [79, 42, 182, 0, 57, 21, 4, 172]
abbrev dktX1_setCount_1 : List UInt8 := dkwX1_setCount_1 ++ []
def dkwX1_setCount_0 : List UInt8 := [42, 28, 182, 0, 20, 29, 3, 17, 39, 15, 184, 0, 13, 184, 0, 63, 43, 28, 46, 54, 4, 43, 28, 29]
abbrev dktX1_setCount_0 : List UInt8 := dkwX1_setCount_0 ++ dktX1_setCount_1
theorem dksX1_setCount_0 : cX1_setCount.data.toList.drop 0 = dktX1_setCount_0 := by decide +kernel
theorem dksX1_setCount_1 : cX1_setCount.data.toList.drop 24 = dktX1_setCount_1 := dk_seg dksX1_setCount_0 24 rfl rfl
theorem dX1_setCount_0 : decode cX1_setCount 0 = .ok (.aload_n 0, 1) := dk_42 (dk_at dksX1_setCount_0 0 rfl rfl)
theorem dX1_setCount_1 : decode cX1_setCount 1 = .ok (.iload_n 2, 1) := dk_28 (dk_at dksX1_setCount_0 1 rfl rfl)
theorem dX1_setCount_2 : decode cX1_setCount 2 = .ok (.invokevirtual 20, 3) := dk_182 0 20 (dk_at dksX1_setCount_0 2 rfl rfl)
theorem dX1_setCount_5 : decode cX1_setCount 5 = .ok (.iload_n 3, 1) := dk_29 (dk_at dksX1_setCount_0 5 rfl rfl)
theorem dX1_setCount_6 : decode cX1_setCount 6 = .ok (.iconst 0, 1) := dk_3 (dk_at dksX1_setCount_0 6 rfl rfl)
theorem dX1_setCount_7 : decode cX1_setCount 7 = .ok (.sipush 9999, 3) := dk_17 39 15 (dk_at dksX1_setCount_0 7 rfl rfl)
theorem dX1_setCount_10 : decode cX1_setCount 10 = .ok (.invokestatic 13, 3) := dk_184 0 13 (dk_at dksX1_setCount_0 10 rfl rfl)
theorem dX1_setCount_13 : decode cX1_setCount 13 = .ok (.invokestatic 63, 3) := dk_184 0 63 (dk_at dksX1_setCount_0 13 rfl rfl)
theorem dX1_setCount_16 : decode cX1_setCount 16 = .ok (.aload_n 1, 1) := dk_43 (dk_at dksX1_setCount_0 16 rfl rfl)
theorem dX1_setCount_17 : decode cX1_setCount 17 = .ok (.iload_n 2, 1) := dk_28 (dk_at dksX1_setCount_0 17 rfl rfl)
theorem dX1_setCount_18 : decode cX1_setCount 18 = .ok (.iaload, 1) := dk_46 (dk_at dksX1_setCount_0 18 rfl rfl)
theorem dX1_setCount_19 : decode cX1_setCount 19 = .ok (.istore 4, 2) := dk_54 4 (dk_at dksX1_setCount_0 19 rfl rfl)
theorem dX1_setCount_21 : decode cX1_setCount 21 = .ok (.aload_n 1, 1) := dk_43 (dk_at dksX1_setCount_0 21 rfl rfl)
theorem dX1_setCount_22 : decode cX1_setCount 22 = .ok (.iload_n 2, 1) := dk_28 (dk_at dksX1_setCount_0 22 rfl rfl)
theorem dX1_setCount_23 : decode cX1_setCount 23 = .ok (.iload_n 3, 1) := dk_29 (dk_at dksX1_setCount_0 23 rfl rfl)
theorem dX1_setCount_24 : decode cX1_setCount 24 = .ok (.iastore, 1) := dk_79 (dk_at dksX1_setCount_1 0 rfl rfl)
theorem dX1_setCount_25 : decode cX1_setCount 25 = .ok (.aload_n 0, 1) := dk_42 (dk_at dksX1_setCount_1 1 rfl rfl)
theorem dX1_setCount_26 : decode cX1_setCount 26 = .ok (.invokevirtual 57, 3) := dk_182 0 57 (dk_at dksX1_setCount_1 2 rfl rfl)
theorem dX1_setCount_29 : decode cX1_setCount 29 = .ok (.iload 4, 2) := dk_21 4 (dk_at dksX1_setCount_1 5 rfl rfl)
theorem dX1_setCount_31 : decode cX1_setCount 31 = .ok (.ireturn, 1) := dk_172 (dk_at dksX1_setCount_1 7 rfl rfl)
abbrev cX1_requireArm : ByteArray := prog_1_method_4_code
def yX1_requireArm : MethodName := ⟨RX1, "requireArm", "(I)V"⟩
def dkwX1_requireArm_0 : List UInt8 := [27, 3, 42, 180, 0, 7, 4, 100, 184, 0, 13, 154, 0, 11, 187, 0, 17, 89, 183, 0, 19, 191, 177]
abbrev dktX1_requireArm_0 : List UInt8 := dkwX1_requireArm_0 ++ []
theorem dksX1_requireArm_0 : cX1_requireArm.data.toList.drop 0 = dktX1_requireArm_0 := by decide +kernel
theorem dX1_requireArm_0 : decode cX1_requireArm 0 = .ok (.iload_n 1, 1) := dk_27 (dk_at dksX1_requireArm_0 0 rfl rfl)
theorem dX1_requireArm_1 : decode cX1_requireArm 1 = .ok (.iconst 0, 1) := dk_3 (dk_at dksX1_requireArm_0 1 rfl rfl)
theorem dX1_requireArm_2 : decode cX1_requireArm 2 = .ok (.aload_n 0, 1) := dk_42 (dk_at dksX1_requireArm_0 2 rfl rfl)
theorem dX1_requireArm_3 : decode cX1_requireArm 3 = .ok (.getfield 7, 3) := dk_180 0 7 (dk_at dksX1_requireArm_0 3 rfl rfl)
theorem dX1_requireArm_6 : decode cX1_requireArm 6 = .ok (.iconst 1, 1) := dk_4 (dk_at dksX1_requireArm_0 6 rfl rfl)
theorem dX1_requireArm_7 : decode cX1_requireArm 7 = .ok (.isub, 1) := dk_100 (dk_at dksX1_requireArm_0 7 rfl rfl)
theorem dX1_requireArm_8 : decode cX1_requireArm 8 = .ok (.invokestatic 13, 3) := dk_184 0 13 (dk_at dksX1_requireArm_0 8 rfl rfl)
theorem dX1_requireArm_11 : decode cX1_requireArm 11 = .ok (.ifCond .ne 11, 3) := dk_154 0 11 (dk_at dksX1_requireArm_0 11 rfl rfl)
theorem dX1_requireArm_14 : decode cX1_requireArm 14 = .ok (.new 17, 3) := dk_187 0 17 (dk_at dksX1_requireArm_0 14 rfl rfl)
theorem dX1_requireArm_17 : decode cX1_requireArm 17 = .ok (.dup, 1) := dk_89 (dk_at dksX1_requireArm_0 17 rfl rfl)
theorem dX1_requireArm_18 : decode cX1_requireArm 18 = .ok (.invokespecial 19, 3) := dk_183 0 19 (dk_at dksX1_requireArm_0 18 rfl rfl)
theorem dX1_requireArm_21 : decode cX1_requireArm 21 = .ok (.athrow, 1) := dk_191 (dk_at dksX1_requireArm_0 21 rfl rfl)
theorem dX1_requireArm_22 : decode cX1_requireArm 22 = .ok (.return_, 1) := dk_177 (dk_at dksX1_requireArm_0 22 rfl rfl)
abbrev cX1_setOutflow : ByteArray := prog_1_method_13_code
def yX1_setOutflow : MethodName := ⟨RX1, "setOutflow", "(II)I"⟩
def dkwX1_setOutflow_0 : List UInt8 := [42, 42, 180, 0, 44, 27, 28, 182, 0, 67, 172]
abbrev dktX1_setOutflow_0 : List UInt8 := dkwX1_setOutflow_0 ++ []
theorem dksX1_setOutflow_0 : cX1_setOutflow.data.toList.drop 0 = dktX1_setOutflow_0 := by decide +kernel
theorem dX1_setOutflow_0 : decode cX1_setOutflow 0 = .ok (.aload_n 0, 1) := dk_42 (dk_at dksX1_setOutflow_0 0 rfl rfl)
theorem dX1_setOutflow_1 : decode cX1_setOutflow 1 = .ok (.aload_n 0, 1) := dk_42 (dk_at dksX1_setOutflow_0 1 rfl rfl)
theorem dX1_setOutflow_2 : decode cX1_setOutflow 2 = .ok (.getfield 44, 3) := dk_180 0 44 (dk_at dksX1_setOutflow_0 2 rfl rfl)
theorem dX1_setOutflow_5 : decode cX1_setOutflow 5 = .ok (.iload_n 1, 1) := dk_27 (dk_at dksX1_setOutflow_0 5 rfl rfl)
theorem dX1_setOutflow_6 : decode cX1_setOutflow 6 = .ok (.iload_n 2, 1) := dk_28 (dk_at dksX1_setOutflow_0 6 rfl rfl)
theorem dX1_setOutflow_7 : decode cX1_setOutflow 7 = .ok (.invokevirtual 67, 3) := dk_182 0 67 (dk_at dksX1_setOutflow_0 7 rfl rfl)
theorem dX1_setOutflow_10 : decode cX1_setOutflow 10 = .ok (.ireturn, 1) := dk_172 (dk_at dksX1_setOutflow_0 10 rfl rfl)
abbrev cX1_setWeight : ByteArray := prog_1_method_14_code
def yX1_setWeight : MethodName := ⟨RX1, "setWeight", "(III)I"⟩
def dkwX1_setWeight_1 : List UInt8 := [28, 96, 46, 54, 4, 42, 180, 0, 47, 16, 6, 27, 104, 28, 96, 29, 79, 42, 182, 0, 57, 21, 4, 172]
abbrev dktX1_setWeight_1 : List UInt8 := dkwX1_setWeight_1 ++ []
def dkwX1_setWeight_0 : List UInt8 := [42, 27, 28, 182, 0, 71, 29, 3, 16, 99, 184, 0, 13, 184, 0, 63, 42, 180, 0, 47, 16, 6, 27, 104]
abbrev dktX1_setWeight_0 : List UInt8 := dkwX1_setWeight_0 ++ dktX1_setWeight_1
theorem dksX1_setWeight_0 : cX1_setWeight.data.toList.drop 0 = dktX1_setWeight_0 := by decide +kernel
theorem dksX1_setWeight_1 : cX1_setWeight.data.toList.drop 24 = dktX1_setWeight_1 := dk_seg dksX1_setWeight_0 24 rfl rfl
theorem dX1_setWeight_0 : decode cX1_setWeight 0 = .ok (.aload_n 0, 1) := dk_42 (dk_at dksX1_setWeight_0 0 rfl rfl)
theorem dX1_setWeight_1 : decode cX1_setWeight 1 = .ok (.iload_n 1, 1) := dk_27 (dk_at dksX1_setWeight_0 1 rfl rfl)
theorem dX1_setWeight_2 : decode cX1_setWeight 2 = .ok (.iload_n 2, 1) := dk_28 (dk_at dksX1_setWeight_0 2 rfl rfl)
theorem dX1_setWeight_3 : decode cX1_setWeight 3 = .ok (.invokevirtual 71, 3) := dk_182 0 71 (dk_at dksX1_setWeight_0 3 rfl rfl)
theorem dX1_setWeight_6 : decode cX1_setWeight 6 = .ok (.iload_n 3, 1) := dk_29 (dk_at dksX1_setWeight_0 6 rfl rfl)
theorem dX1_setWeight_7 : decode cX1_setWeight 7 = .ok (.iconst 0, 1) := dk_3 (dk_at dksX1_setWeight_0 7 rfl rfl)
theorem dX1_setWeight_8 : decode cX1_setWeight 8 = .ok (.bipush 99, 2) := dk_16 99 (dk_at dksX1_setWeight_0 8 rfl rfl)
theorem dX1_setWeight_10 : decode cX1_setWeight 10 = .ok (.invokestatic 13, 3) := dk_184 0 13 (dk_at dksX1_setWeight_0 10 rfl rfl)
theorem dX1_setWeight_13 : decode cX1_setWeight 13 = .ok (.invokestatic 63, 3) := dk_184 0 63 (dk_at dksX1_setWeight_0 13 rfl rfl)
theorem dX1_setWeight_16 : decode cX1_setWeight 16 = .ok (.aload_n 0, 1) := dk_42 (dk_at dksX1_setWeight_0 16 rfl rfl)
theorem dX1_setWeight_17 : decode cX1_setWeight 17 = .ok (.getfield 47, 3) := dk_180 0 47 (dk_at dksX1_setWeight_0 17 rfl rfl)
theorem dX1_setWeight_20 : decode cX1_setWeight 20 = .ok (.bipush 6, 2) := dk_16 6 (dk_at dksX1_setWeight_0 20 rfl rfl)
theorem dX1_setWeight_22 : decode cX1_setWeight 22 = .ok (.iload_n 1, 1) := dk_27 (dk_at dksX1_setWeight_0 22 rfl rfl)
theorem dX1_setWeight_23 : decode cX1_setWeight 23 = .ok (.imul, 1) := dk_104 (dk_at dksX1_setWeight_0 23 rfl rfl)
theorem dX1_setWeight_24 : decode cX1_setWeight 24 = .ok (.iload_n 2, 1) := dk_28 (dk_at dksX1_setWeight_1 0 rfl rfl)
theorem dX1_setWeight_25 : decode cX1_setWeight 25 = .ok (.iadd, 1) := dk_96 (dk_at dksX1_setWeight_1 1 rfl rfl)
theorem dX1_setWeight_26 : decode cX1_setWeight 26 = .ok (.iaload, 1) := dk_46 (dk_at dksX1_setWeight_1 2 rfl rfl)
theorem dX1_setWeight_27 : decode cX1_setWeight 27 = .ok (.istore 4, 2) := dk_54 4 (dk_at dksX1_setWeight_1 3 rfl rfl)
theorem dX1_setWeight_29 : decode cX1_setWeight 29 = .ok (.aload_n 0, 1) := dk_42 (dk_at dksX1_setWeight_1 5 rfl rfl)
theorem dX1_setWeight_30 : decode cX1_setWeight 30 = .ok (.getfield 47, 3) := dk_180 0 47 (dk_at dksX1_setWeight_1 6 rfl rfl)
theorem dX1_setWeight_33 : decode cX1_setWeight 33 = .ok (.bipush 6, 2) := dk_16 6 (dk_at dksX1_setWeight_1 9 rfl rfl)
theorem dX1_setWeight_35 : decode cX1_setWeight 35 = .ok (.iload_n 1, 1) := dk_27 (dk_at dksX1_setWeight_1 11 rfl rfl)
theorem dX1_setWeight_36 : decode cX1_setWeight 36 = .ok (.imul, 1) := dk_104 (dk_at dksX1_setWeight_1 12 rfl rfl)
theorem dX1_setWeight_37 : decode cX1_setWeight 37 = .ok (.iload_n 2, 1) := dk_28 (dk_at dksX1_setWeight_1 13 rfl rfl)
theorem dX1_setWeight_38 : decode cX1_setWeight 38 = .ok (.iadd, 1) := dk_96 (dk_at dksX1_setWeight_1 14 rfl rfl)
theorem dX1_setWeight_39 : decode cX1_setWeight 39 = .ok (.iload_n 3, 1) := dk_29 (dk_at dksX1_setWeight_1 15 rfl rfl)
theorem dX1_setWeight_40 : decode cX1_setWeight 40 = .ok (.iastore, 1) := dk_79 (dk_at dksX1_setWeight_1 16 rfl rfl)
theorem dX1_setWeight_41 : decode cX1_setWeight 41 = .ok (.aload_n 0, 1) := dk_42 (dk_at dksX1_setWeight_1 17 rfl rfl)
theorem dX1_setWeight_42 : decode cX1_setWeight 42 = .ok (.invokevirtual 57, 3) := dk_182 0 57 (dk_at dksX1_setWeight_1 18 rfl rfl)
theorem dX1_setWeight_45 : decode cX1_setWeight 45 = .ok (.iload 4, 2) := dk_21 4 (dk_at dksX1_setWeight_1 21 rfl rfl)
theorem dX1_setWeight_47 : decode cX1_setWeight 47 = .ok (.ireturn, 1) := dk_172 (dk_at dksX1_setWeight_1 23 rfl rfl)
abbrev cX1_requireTurn : ByteArray := prog_1_method_5_code
def yX1_requireTurn : MethodName := ⟨RX1, "requireTurn", "(II)V"⟩
def dkwX1_requireTurn_0 : List UInt8 := [42, 27, 182, 0, 20, 42, 28, 182, 0, 20, 177]
abbrev dktX1_requireTurn_0 : List UInt8 := dkwX1_requireTurn_0 ++ []
theorem dksX1_requireTurn_0 : cX1_requireTurn.data.toList.drop 0 = dktX1_requireTurn_0 := by decide +kernel
theorem dX1_requireTurn_0 : decode cX1_requireTurn 0 = .ok (.aload_n 0, 1) := dk_42 (dk_at dksX1_requireTurn_0 0 rfl rfl)
theorem dX1_requireTurn_1 : decode cX1_requireTurn 1 = .ok (.iload_n 1, 1) := dk_27 (dk_at dksX1_requireTurn_0 1 rfl rfl)
theorem dX1_requireTurn_2 : decode cX1_requireTurn 2 = .ok (.invokevirtual 20, 3) := dk_182 0 20 (dk_at dksX1_requireTurn_0 2 rfl rfl)
theorem dX1_requireTurn_5 : decode cX1_requireTurn 5 = .ok (.aload_n 0, 1) := dk_42 (dk_at dksX1_requireTurn_0 5 rfl rfl)
theorem dX1_requireTurn_6 : decode cX1_requireTurn 6 = .ok (.iload_n 2, 1) := dk_28 (dk_at dksX1_requireTurn_0 6 rfl rfl)
theorem dX1_requireTurn_7 : decode cX1_requireTurn 7 = .ok (.invokevirtual 20, 3) := dk_182 0 20 (dk_at dksX1_requireTurn_0 7 rfl rfl)
theorem dX1_requireTurn_10 : decode cX1_requireTurn 10 = .ok (.return_, 1) := dk_177 (dk_at dksX1_requireTurn_0 10 rfl rfl)
abbrev cX1_scale : ByteArray := prog_1_method_19_code
def yX1_scale : MethodName := ⟨RX1, "scale", "(I)I"⟩
def dkwX1_scale_2 : List UInt8 := [184, 0, 86, 42, 180, 0, 44, 27, 184, 0, 86, 42, 182, 0, 57, 42, 180, 0, 40, 184, 0, 90, 172]
abbrev dktX1_scale_2 : List UInt8 := dkwX1_scale_2 ++ []
def dkwX1_scale_1 : List UInt8 := [180, 0, 44, 27, 184, 0, 79, 154, 0, 11, 187, 0, 83, 89, 183, 0, 85, 191, 42, 180, 0, 40, 27]
abbrev dktX1_scale_1 : List UInt8 := dkwX1_scale_1 ++ dktX1_scale_2
def dkwX1_scale_0 : List UInt8 := [27, 3, 17, 1, 44, 184, 0, 13, 184, 0, 63, 42, 180, 0, 40, 27, 184, 0, 79, 153, 0, 14, 42]
abbrev dktX1_scale_0 : List UInt8 := dkwX1_scale_0 ++ dktX1_scale_1
theorem dksX1_scale_0 : cX1_scale.data.toList.drop 0 = dktX1_scale_0 := by decide +kernel
theorem dksX1_scale_1 : cX1_scale.data.toList.drop 23 = dktX1_scale_1 := dk_seg dksX1_scale_0 23 rfl rfl
theorem dksX1_scale_2 : cX1_scale.data.toList.drop 46 = dktX1_scale_2 := dk_seg dksX1_scale_1 23 rfl rfl
theorem dX1_scale_0 : decode cX1_scale 0 = .ok (.iload_n 1, 1) := dk_27 (dk_at dksX1_scale_0 0 rfl rfl)
theorem dX1_scale_1 : decode cX1_scale 1 = .ok (.iconst 0, 1) := dk_3 (dk_at dksX1_scale_0 1 rfl rfl)
theorem dX1_scale_2 : decode cX1_scale 2 = .ok (.sipush 300, 3) := dk_17 1 44 (dk_at dksX1_scale_0 2 rfl rfl)
theorem dX1_scale_5 : decode cX1_scale 5 = .ok (.invokestatic 13, 3) := dk_184 0 13 (dk_at dksX1_scale_0 5 rfl rfl)
theorem dX1_scale_8 : decode cX1_scale 8 = .ok (.invokestatic 63, 3) := dk_184 0 63 (dk_at dksX1_scale_0 8 rfl rfl)
theorem dX1_scale_11 : decode cX1_scale 11 = .ok (.aload_n 0, 1) := dk_42 (dk_at dksX1_scale_0 11 rfl rfl)
theorem dX1_scale_12 : decode cX1_scale 12 = .ok (.getfield 40, 3) := dk_180 0 40 (dk_at dksX1_scale_0 12 rfl rfl)
theorem dX1_scale_15 : decode cX1_scale 15 = .ok (.iload_n 1, 1) := dk_27 (dk_at dksX1_scale_0 15 rfl rfl)
theorem dX1_scale_16 : decode cX1_scale 16 = .ok (.invokestatic 79, 3) := dk_184 0 79 (dk_at dksX1_scale_0 16 rfl rfl)
theorem dX1_scale_19 : decode cX1_scale 19 = .ok (.ifCond .eq 14, 3) := dk_153 0 14 (dk_at dksX1_scale_0 19 rfl rfl)
theorem dX1_scale_22 : decode cX1_scale 22 = .ok (.aload_n 0, 1) := dk_42 (dk_at dksX1_scale_0 22 rfl rfl)
theorem dX1_scale_23 : decode cX1_scale 23 = .ok (.getfield 44, 3) := dk_180 0 44 (dk_at dksX1_scale_1 0 rfl rfl)
theorem dX1_scale_26 : decode cX1_scale 26 = .ok (.iload_n 1, 1) := dk_27 (dk_at dksX1_scale_1 3 rfl rfl)
theorem dX1_scale_27 : decode cX1_scale 27 = .ok (.invokestatic 79, 3) := dk_184 0 79 (dk_at dksX1_scale_1 4 rfl rfl)
theorem dX1_scale_30 : decode cX1_scale 30 = .ok (.ifCond .ne 11, 3) := dk_154 0 11 (dk_at dksX1_scale_1 7 rfl rfl)
theorem dX1_scale_33 : decode cX1_scale 33 = .ok (.new 83, 3) := dk_187 0 83 (dk_at dksX1_scale_1 10 rfl rfl)
theorem dX1_scale_36 : decode cX1_scale 36 = .ok (.dup, 1) := dk_89 (dk_at dksX1_scale_1 13 rfl rfl)
theorem dX1_scale_37 : decode cX1_scale 37 = .ok (.invokespecial 85, 3) := dk_183 0 85 (dk_at dksX1_scale_1 14 rfl rfl)
theorem dX1_scale_40 : decode cX1_scale 40 = .ok (.athrow, 1) := dk_191 (dk_at dksX1_scale_1 17 rfl rfl)
theorem dX1_scale_41 : decode cX1_scale 41 = .ok (.aload_n 0, 1) := dk_42 (dk_at dksX1_scale_1 18 rfl rfl)
theorem dX1_scale_42 : decode cX1_scale 42 = .ok (.getfield 40, 3) := dk_180 0 40 (dk_at dksX1_scale_1 19 rfl rfl)
theorem dX1_scale_45 : decode cX1_scale 45 = .ok (.iload_n 1, 1) := dk_27 (dk_at dksX1_scale_1 22 rfl rfl)
theorem dX1_scale_46 : decode cX1_scale 46 = .ok (.invokestatic 86, 3) := dk_184 0 86 (dk_at dksX1_scale_2 0 rfl rfl)
theorem dX1_scale_49 : decode cX1_scale 49 = .ok (.aload_n 0, 1) := dk_42 (dk_at dksX1_scale_2 3 rfl rfl)
theorem dX1_scale_50 : decode cX1_scale 50 = .ok (.getfield 44, 3) := dk_180 0 44 (dk_at dksX1_scale_2 4 rfl rfl)
theorem dX1_scale_53 : decode cX1_scale 53 = .ok (.iload_n 1, 1) := dk_27 (dk_at dksX1_scale_2 7 rfl rfl)
theorem dX1_scale_54 : decode cX1_scale 54 = .ok (.invokestatic 86, 3) := dk_184 0 86 (dk_at dksX1_scale_2 8 rfl rfl)
theorem dX1_scale_57 : decode cX1_scale 57 = .ok (.aload_n 0, 1) := dk_42 (dk_at dksX1_scale_2 11 rfl rfl)
theorem dX1_scale_58 : decode cX1_scale 58 = .ok (.invokevirtual 57, 3) := dk_182 0 57 (dk_at dksX1_scale_2 12 rfl rfl)
theorem dX1_scale_61 : decode cX1_scale 61 = .ok (.aload_n 0, 1) := dk_42 (dk_at dksX1_scale_2 15 rfl rfl)
theorem dX1_scale_62 : decode cX1_scale 62 = .ok (.getfield 40, 3) := dk_180 0 40 (dk_at dksX1_scale_2 16 rfl rfl)
theorem dX1_scale_65 : decode cX1_scale 65 = .ok (.invokestatic 90, 3) := dk_184 0 90 (dk_at dksX1_scale_2 19 rfl rfl)
theorem dX1_scale_68 : decode cX1_scale 68 = .ok (.ireturn, 1) := dk_172 (dk_at dksX1_scale_2 22 rfl rfl)
abbrev cX1_fits : ByteArray := prog_1_method_16_code
def yX1_fits : MethodName := ⟨RX1, "fits", "([II)Z"⟩
def dkwX1_fits_2 : List UInt8 := [167, 255, 220, 28, 172]
abbrev dktX1_fits_2 : List UInt8 := dkwX1_fits_2 ++ []
def dkwX1_fits_1 : List UInt8 := [28, 21, 6, 27, 184, 0, 75, 17, 39, 15, 163, 0, 7, 4, 167, 0, 4, 3, 126, 61, 132, 5, 1]
abbrev dktX1_fits_1 : List UInt8 := dkwX1_fits_1 ++ dktX1_fits_2
def dkwX1_fits_0 : List UInt8 := [4, 61, 42, 78, 45, 190, 54, 4, 3, 54, 5, 21, 5, 21, 4, 162, 0, 35, 45, 21, 5, 46, 54, 6]
abbrev dktX1_fits_0 : List UInt8 := dkwX1_fits_0 ++ dktX1_fits_1
theorem dksX1_fits_0 : cX1_fits.data.toList.drop 0 = dktX1_fits_0 := by decide +kernel
theorem dksX1_fits_1 : cX1_fits.data.toList.drop 24 = dktX1_fits_1 := dk_seg dksX1_fits_0 24 rfl rfl
theorem dksX1_fits_2 : cX1_fits.data.toList.drop 47 = dktX1_fits_2 := dk_seg dksX1_fits_1 23 rfl rfl
theorem dX1_fits_0 : decode cX1_fits 0 = .ok (.iconst 1, 1) := dk_4 (dk_at dksX1_fits_0 0 rfl rfl)
theorem dX1_fits_1 : decode cX1_fits 1 = .ok (.istore_n 2, 1) := dk_61 (dk_at dksX1_fits_0 1 rfl rfl)
theorem dX1_fits_2 : decode cX1_fits 2 = .ok (.aload_n 0, 1) := dk_42 (dk_at dksX1_fits_0 2 rfl rfl)
theorem dX1_fits_3 : decode cX1_fits 3 = .ok (.astore_n 3, 1) := dk_78 (dk_at dksX1_fits_0 3 rfl rfl)
theorem dX1_fits_4 : decode cX1_fits 4 = .ok (.aload_n 3, 1) := dk_45 (dk_at dksX1_fits_0 4 rfl rfl)
theorem dX1_fits_5 : decode cX1_fits 5 = .ok (.arraylength, 1) := dk_190 (dk_at dksX1_fits_0 5 rfl rfl)
theorem dX1_fits_6 : decode cX1_fits 6 = .ok (.istore 4, 2) := dk_54 4 (dk_at dksX1_fits_0 6 rfl rfl)
theorem dX1_fits_8 : decode cX1_fits 8 = .ok (.iconst 0, 1) := dk_3 (dk_at dksX1_fits_0 8 rfl rfl)
theorem dX1_fits_9 : decode cX1_fits 9 = .ok (.istore 5, 2) := dk_54 5 (dk_at dksX1_fits_0 9 rfl rfl)
theorem dX1_fits_11 : decode cX1_fits 11 = .ok (.iload 5, 2) := dk_21 5 (dk_at dksX1_fits_0 11 rfl rfl)
theorem dX1_fits_13 : decode cX1_fits 13 = .ok (.iload 4, 2) := dk_21 4 (dk_at dksX1_fits_0 13 rfl rfl)
theorem dX1_fits_15 : decode cX1_fits 15 = .ok (.if_icmp .ge 35, 3) := dk_162 0 35 (dk_at dksX1_fits_0 15 rfl rfl)
theorem dX1_fits_18 : decode cX1_fits 18 = .ok (.aload_n 3, 1) := dk_45 (dk_at dksX1_fits_0 18 rfl rfl)
theorem dX1_fits_19 : decode cX1_fits 19 = .ok (.iload 5, 2) := dk_21 5 (dk_at dksX1_fits_0 19 rfl rfl)
theorem dX1_fits_21 : decode cX1_fits 21 = .ok (.iaload, 1) := dk_46 (dk_at dksX1_fits_0 21 rfl rfl)
theorem dX1_fits_22 : decode cX1_fits 22 = .ok (.istore 6, 2) := dk_54 6 (dk_at dksX1_fits_0 22 rfl rfl)
theorem dX1_fits_24 : decode cX1_fits 24 = .ok (.iload_n 2, 1) := dk_28 (dk_at dksX1_fits_1 0 rfl rfl)
theorem dX1_fits_25 : decode cX1_fits 25 = .ok (.iload 6, 2) := dk_21 6 (dk_at dksX1_fits_1 1 rfl rfl)
theorem dX1_fits_27 : decode cX1_fits 27 = .ok (.iload_n 1, 1) := dk_27 (dk_at dksX1_fits_1 3 rfl rfl)
theorem dX1_fits_28 : decode cX1_fits 28 = .ok (.invokestatic 75, 3) := dk_184 0 75 (dk_at dksX1_fits_1 4 rfl rfl)
theorem dX1_fits_31 : decode cX1_fits 31 = .ok (.sipush 9999, 3) := dk_17 39 15 (dk_at dksX1_fits_1 7 rfl rfl)
theorem dX1_fits_34 : decode cX1_fits 34 = .ok (.if_icmp .gt 7, 3) := dk_163 0 7 (dk_at dksX1_fits_1 10 rfl rfl)
theorem dX1_fits_37 : decode cX1_fits 37 = .ok (.iconst 1, 1) := dk_4 (dk_at dksX1_fits_1 13 rfl rfl)
theorem dX1_fits_38 : decode cX1_fits 38 = .ok (.goto 4, 3) := dk_167 0 4 (dk_at dksX1_fits_1 14 rfl rfl)
theorem dX1_fits_41 : decode cX1_fits 41 = .ok (.iconst 0, 1) := dk_3 (dk_at dksX1_fits_1 17 rfl rfl)
theorem dX1_fits_42 : decode cX1_fits 42 = .ok (.iand, 1) := dk_126 (dk_at dksX1_fits_1 18 rfl rfl)
theorem dX1_fits_43 : decode cX1_fits 43 = .ok (.istore_n 2, 1) := dk_61 (dk_at dksX1_fits_1 19 rfl rfl)
theorem dX1_fits_44 : decode cX1_fits 44 = .ok (.iinc 5 1, 3) := dk_132 5 1 (dk_at dksX1_fits_1 20 rfl rfl)
theorem dX1_fits_47 : decode cX1_fits 47 = .ok (.goto (-36), 3) := dk_167 255 220 (dk_at dksX1_fits_2 0 rfl rfl)
theorem dX1_fits_50 : decode cX1_fits 50 = .ok (.iload_n 2, 1) := dk_28 (dk_at dksX1_fits_2 3 rfl rfl)
theorem dX1_fits_51 : decode cX1_fits 51 = .ok (.ireturn, 1) := dk_172 (dk_at dksX1_fits_2 4 rfl rfl)
abbrev cX1_scaled : ByteArray := prog_1_method_15_code
def yX1_scaled : MethodName := ⟨RX1, "scaled", "(II)I"⟩
def dkwX1_scaled_0 : List UInt8 := [26, 27, 104, 16, 50, 96, 16, 100, 108, 172]
abbrev dktX1_scaled_0 : List UInt8 := dkwX1_scaled_0 ++ []
theorem dksX1_scaled_0 : cX1_scaled.data.toList.drop 0 = dktX1_scaled_0 := by decide +kernel
theorem dX1_scaled_0 : decode cX1_scaled 0 = .ok (.iload_n 0, 1) := dk_26 (dk_at dksX1_scaled_0 0 rfl rfl)
theorem dX1_scaled_1 : decode cX1_scaled 1 = .ok (.iload_n 1, 1) := dk_27 (dk_at dksX1_scaled_0 1 rfl rfl)
theorem dX1_scaled_2 : decode cX1_scaled 2 = .ok (.imul, 1) := dk_104 (dk_at dksX1_scaled_0 2 rfl rfl)
theorem dX1_scaled_3 : decode cX1_scaled 3 = .ok (.bipush 50, 2) := dk_16 50 (dk_at dksX1_scaled_0 3 rfl rfl)
theorem dX1_scaled_5 : decode cX1_scaled 5 = .ok (.iadd, 1) := dk_96 (dk_at dksX1_scaled_0 5 rfl rfl)
theorem dX1_scaled_6 : decode cX1_scaled 6 = .ok (.bipush 100, 2) := dk_16 100 (dk_at dksX1_scaled_0 6 rfl rfl)
theorem dX1_scaled_8 : decode cX1_scaled 8 = .ok (.idiv, 1) := dk_108 (dk_at dksX1_scaled_0 8 rfl rfl)
theorem dX1_scaled_9 : decode cX1_scaled 9 = .ok (.ireturn, 1) := dk_172 (dk_at dksX1_scaled_0 9 rfl rfl)
abbrev cX1_scaleAll : ByteArray := prog_1_method_17_code
def yX1_scaleAll : MethodName := ⟨RX1, "scaleAll", "([II)V"⟩
def dkwX1_scaleAll_1 : List UInt8 := [177]
abbrev dktX1_scaleAll_1 : List UInt8 := dkwX1_scaleAll_1 ++ []
def dkwX1_scaleAll_0 : List UInt8 := [3, 61, 28, 42, 190, 162, 0, 19, 42, 28, 42, 28, 46, 27, 184, 0, 75, 79, 132, 2, 1, 167, 255, 237]
abbrev dktX1_scaleAll_0 : List UInt8 := dkwX1_scaleAll_0 ++ dktX1_scaleAll_1
theorem dksX1_scaleAll_0 : cX1_scaleAll.data.toList.drop 0 = dktX1_scaleAll_0 := by decide +kernel
theorem dksX1_scaleAll_1 : cX1_scaleAll.data.toList.drop 24 = dktX1_scaleAll_1 := dk_seg dksX1_scaleAll_0 24 rfl rfl
theorem dX1_scaleAll_0 : decode cX1_scaleAll 0 = .ok (.iconst 0, 1) := dk_3 (dk_at dksX1_scaleAll_0 0 rfl rfl)
theorem dX1_scaleAll_1 : decode cX1_scaleAll 1 = .ok (.istore_n 2, 1) := dk_61 (dk_at dksX1_scaleAll_0 1 rfl rfl)
theorem dX1_scaleAll_2 : decode cX1_scaleAll 2 = .ok (.iload_n 2, 1) := dk_28 (dk_at dksX1_scaleAll_0 2 rfl rfl)
theorem dX1_scaleAll_3 : decode cX1_scaleAll 3 = .ok (.aload_n 0, 1) := dk_42 (dk_at dksX1_scaleAll_0 3 rfl rfl)
theorem dX1_scaleAll_4 : decode cX1_scaleAll 4 = .ok (.arraylength, 1) := dk_190 (dk_at dksX1_scaleAll_0 4 rfl rfl)
theorem dX1_scaleAll_5 : decode cX1_scaleAll 5 = .ok (.if_icmp .ge 19, 3) := dk_162 0 19 (dk_at dksX1_scaleAll_0 5 rfl rfl)
theorem dX1_scaleAll_8 : decode cX1_scaleAll 8 = .ok (.aload_n 0, 1) := dk_42 (dk_at dksX1_scaleAll_0 8 rfl rfl)
theorem dX1_scaleAll_9 : decode cX1_scaleAll 9 = .ok (.iload_n 2, 1) := dk_28 (dk_at dksX1_scaleAll_0 9 rfl rfl)
theorem dX1_scaleAll_10 : decode cX1_scaleAll 10 = .ok (.aload_n 0, 1) := dk_42 (dk_at dksX1_scaleAll_0 10 rfl rfl)
theorem dX1_scaleAll_11 : decode cX1_scaleAll 11 = .ok (.iload_n 2, 1) := dk_28 (dk_at dksX1_scaleAll_0 11 rfl rfl)
theorem dX1_scaleAll_12 : decode cX1_scaleAll 12 = .ok (.iaload, 1) := dk_46 (dk_at dksX1_scaleAll_0 12 rfl rfl)
theorem dX1_scaleAll_13 : decode cX1_scaleAll 13 = .ok (.iload_n 1, 1) := dk_27 (dk_at dksX1_scaleAll_0 13 rfl rfl)
theorem dX1_scaleAll_14 : decode cX1_scaleAll 14 = .ok (.invokestatic 75, 3) := dk_184 0 75 (dk_at dksX1_scaleAll_0 14 rfl rfl)
theorem dX1_scaleAll_17 : decode cX1_scaleAll 17 = .ok (.iastore, 1) := dk_79 (dk_at dksX1_scaleAll_0 17 rfl rfl)
theorem dX1_scaleAll_18 : decode cX1_scaleAll 18 = .ok (.iinc 2 1, 3) := dk_132 2 1 (dk_at dksX1_scaleAll_0 18 rfl rfl)
theorem dX1_scaleAll_21 : decode cX1_scaleAll 21 = .ok (.goto (-19), 3) := dk_167 255 237 (dk_at dksX1_scaleAll_0 21 rfl rfl)
theorem dX1_scaleAll_24 : decode cX1_scaleAll 24 = .ok (.return_, 1) := dk_177 (dk_at dksX1_scaleAll_1 0 rfl rfl)
abbrev cX1_excess : ByteArray := prog_1_method_27_code
def yX1_excess : MethodName := ⟨RX1, "excess", "(I)I"⟩
def dkwX1_excess_0 : List UInt8 := [27, 3, 4, 42, 180, 0, 7, 120, 4, 100, 184, 0, 13, 184, 0, 63, 42, 27, 182, 0, 102, 172]
abbrev dktX1_excess_0 : List UInt8 := dkwX1_excess_0 ++ []
theorem dksX1_excess_0 : cX1_excess.data.toList.drop 0 = dktX1_excess_0 := by decide +kernel
theorem dX1_excess_0 : decode cX1_excess 0 = .ok (.iload_n 1, 1) := dk_27 (dk_at dksX1_excess_0 0 rfl rfl)
theorem dX1_excess_1 : decode cX1_excess 1 = .ok (.iconst 0, 1) := dk_3 (dk_at dksX1_excess_0 1 rfl rfl)
theorem dX1_excess_2 : decode cX1_excess 2 = .ok (.iconst 1, 1) := dk_4 (dk_at dksX1_excess_0 2 rfl rfl)
theorem dX1_excess_3 : decode cX1_excess 3 = .ok (.aload_n 0, 1) := dk_42 (dk_at dksX1_excess_0 3 rfl rfl)
theorem dX1_excess_4 : decode cX1_excess 4 = .ok (.getfield 7, 3) := dk_180 0 7 (dk_at dksX1_excess_0 4 rfl rfl)
theorem dX1_excess_7 : decode cX1_excess 7 = .ok (.ishl, 1) := dk_120 (dk_at dksX1_excess_0 7 rfl rfl)
theorem dX1_excess_8 : decode cX1_excess 8 = .ok (.iconst 1, 1) := dk_4 (dk_at dksX1_excess_0 8 rfl rfl)
theorem dX1_excess_9 : decode cX1_excess 9 = .ok (.isub, 1) := dk_100 (dk_at dksX1_excess_0 9 rfl rfl)
theorem dX1_excess_10 : decode cX1_excess 10 = .ok (.invokestatic 13, 3) := dk_184 0 13 (dk_at dksX1_excess_0 10 rfl rfl)
theorem dX1_excess_13 : decode cX1_excess 13 = .ok (.invokestatic 63, 3) := dk_184 0 63 (dk_at dksX1_excess_0 13 rfl rfl)
theorem dX1_excess_16 : decode cX1_excess 16 = .ok (.aload_n 0, 1) := dk_42 (dk_at dksX1_excess_0 16 rfl rfl)
theorem dX1_excess_17 : decode cX1_excess 17 = .ok (.iload_n 1, 1) := dk_27 (dk_at dksX1_excess_0 17 rfl rfl)
theorem dX1_excess_18 : decode cX1_excess 18 = .ok (.invokevirtual 102, 3) := dk_182 0 102 (dk_at dksX1_excess_0 18 rfl rfl)
theorem dX1_excess_21 : decode cX1_excess 21 = .ok (.ireturn, 1) := dk_172 (dk_at dksX1_excess_0 21 rfl rfl)
abbrev cX1_iterate : ByteArray := prog_1_method_29_code
def yX1_iterate : MethodName := ⟨RX1, "iterate", "(I)I"⟩
def dkwX1_iterate_1 : List UInt8 := [167, 255, 244, 42, 180, 0, 60, 172]
abbrev dktX1_iterate_1 : List UInt8 := dkwX1_iterate_1 ++ []
def dkwX1_iterate_0 : List UInt8 := [27, 4, 16, 50, 184, 0, 13, 184, 0, 63, 3, 61, 28, 27, 162, 0, 13, 42, 182, 0, 119, 132, 2, 1]
abbrev dktX1_iterate_0 : List UInt8 := dkwX1_iterate_0 ++ dktX1_iterate_1
theorem dksX1_iterate_0 : cX1_iterate.data.toList.drop 0 = dktX1_iterate_0 := by decide +kernel
theorem dksX1_iterate_1 : cX1_iterate.data.toList.drop 24 = dktX1_iterate_1 := dk_seg dksX1_iterate_0 24 rfl rfl
theorem dX1_iterate_0 : decode cX1_iterate 0 = .ok (.iload_n 1, 1) := dk_27 (dk_at dksX1_iterate_0 0 rfl rfl)
theorem dX1_iterate_1 : decode cX1_iterate 1 = .ok (.iconst 1, 1) := dk_4 (dk_at dksX1_iterate_0 1 rfl rfl)
theorem dX1_iterate_2 : decode cX1_iterate 2 = .ok (.bipush 50, 2) := dk_16 50 (dk_at dksX1_iterate_0 2 rfl rfl)
theorem dX1_iterate_4 : decode cX1_iterate 4 = .ok (.invokestatic 13, 3) := dk_184 0 13 (dk_at dksX1_iterate_0 4 rfl rfl)
theorem dX1_iterate_7 : decode cX1_iterate 7 = .ok (.invokestatic 63, 3) := dk_184 0 63 (dk_at dksX1_iterate_0 7 rfl rfl)
theorem dX1_iterate_10 : decode cX1_iterate 10 = .ok (.iconst 0, 1) := dk_3 (dk_at dksX1_iterate_0 10 rfl rfl)
theorem dX1_iterate_11 : decode cX1_iterate 11 = .ok (.istore_n 2, 1) := dk_61 (dk_at dksX1_iterate_0 11 rfl rfl)
theorem dX1_iterate_12 : decode cX1_iterate 12 = .ok (.iload_n 2, 1) := dk_28 (dk_at dksX1_iterate_0 12 rfl rfl)
theorem dX1_iterate_13 : decode cX1_iterate 13 = .ok (.iload_n 1, 1) := dk_27 (dk_at dksX1_iterate_0 13 rfl rfl)
theorem dX1_iterate_14 : decode cX1_iterate 14 = .ok (.if_icmp .ge 13, 3) := dk_162 0 13 (dk_at dksX1_iterate_0 14 rfl rfl)
theorem dX1_iterate_17 : decode cX1_iterate 17 = .ok (.aload_n 0, 1) := dk_42 (dk_at dksX1_iterate_0 17 rfl rfl)
theorem dX1_iterate_18 : decode cX1_iterate 18 = .ok (.invokevirtual 119, 3) := dk_182 0 119 (dk_at dksX1_iterate_0 18 rfl rfl)
theorem dX1_iterate_21 : decode cX1_iterate 21 = .ok (.iinc 2 1, 3) := dk_132 2 1 (dk_at dksX1_iterate_0 21 rfl rfl)
theorem dX1_iterate_24 : decode cX1_iterate 24 = .ok (.goto (-12), 3) := dk_167 255 244 (dk_at dksX1_iterate_1 0 rfl rfl)
theorem dX1_iterate_27 : decode cX1_iterate 27 = .ok (.aload_n 0, 1) := dk_42 (dk_at dksX1_iterate_1 3 rfl rfl)
theorem dX1_iterate_28 : decode cX1_iterate 28 = .ok (.getfield 60, 3) := dk_180 0 60 (dk_at dksX1_iterate_1 4 rfl rfl)
theorem dX1_iterate_31 : decode cX1_iterate 31 = .ok (.ireturn, 1) := dk_172 (dk_at dksX1_iterate_1 7 rfl rfl)
abbrev cX1_round : ByteArray := prog_1_method_28_code
def yX1_round : MethodName := ⟨RX1, "round", "()V"⟩
def dkwX1_round_2 : List UInt8 := [132, 1, 1, 167, 255, 234, 42, 89, 180, 0, 60, 4, 96, 181, 0, 60, 177]
abbrev dktX1_round_2 : List UInt8 := dkwX1_round_2 ++ []
def dkwX1_round_1 : List UInt8 := [167, 255, 234, 3, 60, 27, 42, 180, 0, 7, 162, 0, 20, 42, 180, 0, 37, 42, 27, 185, 0, 113, 3, 0]
abbrev dktX1_round_1 : List UInt8 := dkwX1_round_1 ++ dktX1_round_2
def dkwX1_round_0 : List UInt8 := [3, 60, 27, 42, 180, 0, 7, 162, 0, 20, 42, 180, 0, 30, 42, 27, 185, 0, 113, 3, 0, 132, 1, 1]
abbrev dktX1_round_0 : List UInt8 := dkwX1_round_0 ++ dktX1_round_1
theorem dksX1_round_0 : cX1_round.data.toList.drop 0 = dktX1_round_0 := by decide +kernel
theorem dksX1_round_1 : cX1_round.data.toList.drop 24 = dktX1_round_1 := dk_seg dksX1_round_0 24 rfl rfl
theorem dksX1_round_2 : cX1_round.data.toList.drop 48 = dktX1_round_2 := dk_seg dksX1_round_1 24 rfl rfl
theorem dX1_round_0 : decode cX1_round 0 = .ok (.iconst 0, 1) := dk_3 (dk_at dksX1_round_0 0 rfl rfl)
theorem dX1_round_1 : decode cX1_round 1 = .ok (.istore_n 1, 1) := dk_60 (dk_at dksX1_round_0 1 rfl rfl)
theorem dX1_round_2 : decode cX1_round 2 = .ok (.iload_n 1, 1) := dk_27 (dk_at dksX1_round_0 2 rfl rfl)
theorem dX1_round_3 : decode cX1_round 3 = .ok (.aload_n 0, 1) := dk_42 (dk_at dksX1_round_0 3 rfl rfl)
theorem dX1_round_4 : decode cX1_round 4 = .ok (.getfield 7, 3) := dk_180 0 7 (dk_at dksX1_round_0 4 rfl rfl)
theorem dX1_round_7 : decode cX1_round 7 = .ok (.if_icmp .ge 20, 3) := dk_162 0 20 (dk_at dksX1_round_0 7 rfl rfl)
theorem dX1_round_10 : decode cX1_round 10 = .ok (.aload_n 0, 1) := dk_42 (dk_at dksX1_round_0 10 rfl rfl)
theorem dX1_round_11 : decode cX1_round 11 = .ok (.getfield 30, 3) := dk_180 0 30 (dk_at dksX1_round_0 11 rfl rfl)
theorem dX1_round_14 : decode cX1_round 14 = .ok (.aload_n 0, 1) := dk_42 (dk_at dksX1_round_0 14 rfl rfl)
theorem dX1_round_15 : decode cX1_round 15 = .ok (.iload_n 1, 1) := dk_27 (dk_at dksX1_round_0 15 rfl rfl)
theorem dX1_round_16 : decode cX1_round 16 = .ok (.invokeinterface 113 3, 5) := by decide +kernel
theorem dX1_round_21 : decode cX1_round 21 = .ok (.iinc 1 1, 3) := dk_132 1 1 (dk_at dksX1_round_0 21 rfl rfl)
theorem dX1_round_24 : decode cX1_round 24 = .ok (.goto (-22), 3) := dk_167 255 234 (dk_at dksX1_round_1 0 rfl rfl)
theorem dX1_round_27 : decode cX1_round 27 = .ok (.iconst 0, 1) := dk_3 (dk_at dksX1_round_1 3 rfl rfl)
theorem dX1_round_28 : decode cX1_round 28 = .ok (.istore_n 1, 1) := dk_60 (dk_at dksX1_round_1 4 rfl rfl)
theorem dX1_round_29 : decode cX1_round 29 = .ok (.iload_n 1, 1) := dk_27 (dk_at dksX1_round_1 5 rfl rfl)
theorem dX1_round_30 : decode cX1_round 30 = .ok (.aload_n 0, 1) := dk_42 (dk_at dksX1_round_1 6 rfl rfl)
theorem dX1_round_31 : decode cX1_round 31 = .ok (.getfield 7, 3) := dk_180 0 7 (dk_at dksX1_round_1 7 rfl rfl)
theorem dX1_round_34 : decode cX1_round 34 = .ok (.if_icmp .ge 20, 3) := dk_162 0 20 (dk_at dksX1_round_1 10 rfl rfl)
theorem dX1_round_37 : decode cX1_round 37 = .ok (.aload_n 0, 1) := dk_42 (dk_at dksX1_round_1 13 rfl rfl)
theorem dX1_round_38 : decode cX1_round 38 = .ok (.getfield 37, 3) := dk_180 0 37 (dk_at dksX1_round_1 14 rfl rfl)
theorem dX1_round_41 : decode cX1_round 41 = .ok (.aload_n 0, 1) := dk_42 (dk_at dksX1_round_1 17 rfl rfl)
theorem dX1_round_42 : decode cX1_round 42 = .ok (.iload_n 1, 1) := dk_27 (dk_at dksX1_round_1 18 rfl rfl)
theorem dX1_round_43 : decode cX1_round 43 = .ok (.invokeinterface 113 3, 5) := by decide +kernel
theorem dX1_round_48 : decode cX1_round 48 = .ok (.iinc 1 1, 3) := dk_132 1 1 (dk_at dksX1_round_2 0 rfl rfl)
theorem dX1_round_51 : decode cX1_round 51 = .ok (.goto (-22), 3) := dk_167 255 234 (dk_at dksX1_round_2 3 rfl rfl)
theorem dX1_round_54 : decode cX1_round 54 = .ok (.aload_n 0, 1) := dk_42 (dk_at dksX1_round_2 6 rfl rfl)
theorem dX1_round_55 : decode cX1_round 55 = .ok (.dup, 1) := dk_89 (dk_at dksX1_round_2 7 rfl rfl)
theorem dX1_round_56 : decode cX1_round 56 = .ok (.getfield 60, 3) := dk_180 0 60 (dk_at dksX1_round_2 8 rfl rfl)
theorem dX1_round_59 : decode cX1_round 59 = .ok (.iconst 1, 1) := dk_4 (dk_at dksX1_round_2 11 rfl rfl)
theorem dX1_round_60 : decode cX1_round 60 = .ok (.iadd, 1) := dk_96 (dk_at dksX1_round_2 12 rfl rfl)
theorem dX1_round_61 : decode cX1_round 61 = .ok (.putfield 60, 3) := dk_181 0 60 (dk_at dksX1_round_2 13 rfl rfl)
theorem dX1_round_64 : decode cX1_round 64 = .ok (.return_, 1) := dk_177 (dk_at dksX1_round_2 16 rfl rfl)
abbrev cX1_fit : ByteArray := prog_1_method_32_code
def yX1_fit : MethodName := ⟨RX1, "fit", "(II)I"⟩
def dkwX1_fit_2 : List UInt8 := [41, 151, 158, 0, 13, 42, 182, 0, 119, 132, 5, 1, 167, 255, 234, 21, 5, 172]
abbrev dktX1_fit_2 : List UInt8 := dkwX1_fit_2 ++ []
def dkwX1_fit_1 : List UInt8 := [3, 184, 0, 63, 27, 135, 20, 0, 140, 111, 74, 3, 54, 5, 21, 5, 28, 162, 0, 22, 42, 182, 0, 142]
abbrev dktX1_fit_1 : List UInt8 := dkwX1_fit_1 ++ dktX1_fit_2
def dkwX1_fit_0 : List UInt8 := [27, 3, 18, 139, 184, 0, 13, 153, 0, 17, 28, 4, 16, 100, 184, 0, 13, 153, 0, 7, 4, 167, 0, 4]
abbrev dktX1_fit_0 : List UInt8 := dkwX1_fit_0 ++ dktX1_fit_1
theorem dksX1_fit_0 : cX1_fit.data.toList.drop 0 = dktX1_fit_0 := by decide +kernel
theorem dksX1_fit_1 : cX1_fit.data.toList.drop 24 = dktX1_fit_1 := dk_seg dksX1_fit_0 24 rfl rfl
theorem dksX1_fit_2 : cX1_fit.data.toList.drop 48 = dktX1_fit_2 := dk_seg dksX1_fit_1 24 rfl rfl
theorem dX1_fit_0 : decode cX1_fit 0 = .ok (.iload_n 1, 1) := dk_27 (dk_at dksX1_fit_0 0 rfl rfl)
theorem dX1_fit_1 : decode cX1_fit 1 = .ok (.iconst 0, 1) := dk_3 (dk_at dksX1_fit_0 1 rfl rfl)
theorem dX1_fit_2 : decode cX1_fit 2 = .ok (.ldc 139, 2) := dk_18 139 (dk_at dksX1_fit_0 2 rfl rfl)
theorem dX1_fit_4 : decode cX1_fit 4 = .ok (.invokestatic 13, 3) := dk_184 0 13 (dk_at dksX1_fit_0 4 rfl rfl)
theorem dX1_fit_7 : decode cX1_fit 7 = .ok (.ifCond .eq 17, 3) := dk_153 0 17 (dk_at dksX1_fit_0 7 rfl rfl)
theorem dX1_fit_10 : decode cX1_fit 10 = .ok (.iload_n 2, 1) := dk_28 (dk_at dksX1_fit_0 10 rfl rfl)
theorem dX1_fit_11 : decode cX1_fit 11 = .ok (.iconst 1, 1) := dk_4 (dk_at dksX1_fit_0 11 rfl rfl)
theorem dX1_fit_12 : decode cX1_fit 12 = .ok (.bipush 100, 2) := dk_16 100 (dk_at dksX1_fit_0 12 rfl rfl)
theorem dX1_fit_14 : decode cX1_fit 14 = .ok (.invokestatic 13, 3) := dk_184 0 13 (dk_at dksX1_fit_0 14 rfl rfl)
theorem dX1_fit_17 : decode cX1_fit 17 = .ok (.ifCond .eq 7, 3) := dk_153 0 7 (dk_at dksX1_fit_0 17 rfl rfl)
theorem dX1_fit_20 : decode cX1_fit 20 = .ok (.iconst 1, 1) := dk_4 (dk_at dksX1_fit_0 20 rfl rfl)
theorem dX1_fit_21 : decode cX1_fit 21 = .ok (.goto 4, 3) := dk_167 0 4 (dk_at dksX1_fit_0 21 rfl rfl)
theorem dX1_fit_24 : decode cX1_fit 24 = .ok (.iconst 0, 1) := dk_3 (dk_at dksX1_fit_1 0 rfl rfl)
theorem dX1_fit_25 : decode cX1_fit 25 = .ok (.invokestatic 63, 3) := dk_184 0 63 (dk_at dksX1_fit_1 1 rfl rfl)
theorem dX1_fit_28 : decode cX1_fit 28 = .ok (.iload_n 1, 1) := dk_27 (dk_at dksX1_fit_1 4 rfl rfl)
theorem dX1_fit_29 : decode cX1_fit 29 = .ok (.i2d, 1) := dk_135 (dk_at dksX1_fit_1 5 rfl rfl)
theorem dX1_fit_30 : decode cX1_fit 30 = .ok (.ldc2_w 140, 3) := dk_20 0 140 (dk_at dksX1_fit_1 6 rfl rfl)
theorem dX1_fit_33 : decode cX1_fit 33 = .ok (.ddiv, 1) := dk_111 (dk_at dksX1_fit_1 9 rfl rfl)
theorem dX1_fit_34 : decode cX1_fit 34 = .ok (.dstore_n 3, 1) := dk_74 (dk_at dksX1_fit_1 10 rfl rfl)
theorem dX1_fit_35 : decode cX1_fit 35 = .ok (.iconst 0, 1) := dk_3 (dk_at dksX1_fit_1 11 rfl rfl)
theorem dX1_fit_36 : decode cX1_fit 36 = .ok (.istore 5, 2) := dk_54 5 (dk_at dksX1_fit_1 12 rfl rfl)
theorem dX1_fit_38 : decode cX1_fit 38 = .ok (.iload 5, 2) := dk_21 5 (dk_at dksX1_fit_1 14 rfl rfl)
theorem dX1_fit_40 : decode cX1_fit 40 = .ok (.iload_n 2, 1) := dk_28 (dk_at dksX1_fit_1 16 rfl rfl)
theorem dX1_fit_41 : decode cX1_fit 41 = .ok (.if_icmp .ge 22, 3) := dk_162 0 22 (dk_at dksX1_fit_1 17 rfl rfl)
theorem dX1_fit_44 : decode cX1_fit 44 = .ok (.aload_n 0, 1) := dk_42 (dk_at dksX1_fit_1 20 rfl rfl)
theorem dX1_fit_45 : decode cX1_fit 45 = .ok (.invokevirtual 142, 3) := dk_182 0 142 (dk_at dksX1_fit_1 21 rfl rfl)
theorem dX1_fit_48 : decode cX1_fit 48 = .ok (.dload_n 3, 1) := dk_41 (dk_at dksX1_fit_2 0 rfl rfl)
theorem dX1_fit_49 : decode cX1_fit 49 = .ok (.dcmp .l, 1) := dk_151 (dk_at dksX1_fit_2 1 rfl rfl)
theorem dX1_fit_50 : decode cX1_fit 50 = .ok (.ifCond .le 13, 3) := dk_158 0 13 (dk_at dksX1_fit_2 2 rfl rfl)
theorem dX1_fit_53 : decode cX1_fit 53 = .ok (.aload_n 0, 1) := dk_42 (dk_at dksX1_fit_2 5 rfl rfl)
theorem dX1_fit_54 : decode cX1_fit 54 = .ok (.invokevirtual 119, 3) := dk_182 0 119 (dk_at dksX1_fit_2 6 rfl rfl)
theorem dX1_fit_57 : decode cX1_fit 57 = .ok (.iinc 5 1, 3) := dk_132 5 1 (dk_at dksX1_fit_2 9 rfl rfl)
theorem dX1_fit_60 : decode cX1_fit 60 = .ok (.goto (-22), 3) := dk_167 255 234 (dk_at dksX1_fit_2 12 rfl rfl)
theorem dX1_fit_63 : decode cX1_fit 63 = .ok (.iload 5, 2) := dk_21 5 (dk_at dksX1_fit_2 15 rfl rfl)
theorem dX1_fit_65 : decode cX1_fit 65 = .ok (.ireturn, 1) := dk_172 (dk_at dksX1_fit_2 17 rfl rfl)
abbrev cX1_estimate : ByteArray := prog_1_method_35_code
def yX1_estimate : MethodName := ⟨RX1, "estimate", "(II)D"⟩
def dkwX1_estimate_0 : List UInt8 := [42, 27, 28, 182, 0, 71, 42, 180, 0, 50, 16, 6, 27, 104, 28, 96, 49, 175]
abbrev dktX1_estimate_0 : List UInt8 := dkwX1_estimate_0 ++ []
theorem dksX1_estimate_0 : cX1_estimate.data.toList.drop 0 = dktX1_estimate_0 := by decide +kernel
theorem dX1_estimate_0 : decode cX1_estimate 0 = .ok (.aload_n 0, 1) := dk_42 (dk_at dksX1_estimate_0 0 rfl rfl)
theorem dX1_estimate_1 : decode cX1_estimate 1 = .ok (.iload_n 1, 1) := dk_27 (dk_at dksX1_estimate_0 1 rfl rfl)
theorem dX1_estimate_2 : decode cX1_estimate 2 = .ok (.iload_n 2, 1) := dk_28 (dk_at dksX1_estimate_0 2 rfl rfl)
theorem dX1_estimate_3 : decode cX1_estimate 3 = .ok (.invokevirtual 71, 3) := dk_182 0 71 (dk_at dksX1_estimate_0 3 rfl rfl)
theorem dX1_estimate_6 : decode cX1_estimate 6 = .ok (.aload_n 0, 1) := dk_42 (dk_at dksX1_estimate_0 6 rfl rfl)
theorem dX1_estimate_7 : decode cX1_estimate 7 = .ok (.getfield 50, 3) := dk_180 0 50 (dk_at dksX1_estimate_0 7 rfl rfl)
theorem dX1_estimate_10 : decode cX1_estimate 10 = .ok (.bipush 6, 2) := dk_16 6 (dk_at dksX1_estimate_0 10 rfl rfl)
theorem dX1_estimate_12 : decode cX1_estimate 12 = .ok (.iload_n 1, 1) := dk_27 (dk_at dksX1_estimate_0 12 rfl rfl)
theorem dX1_estimate_13 : decode cX1_estimate 13 = .ok (.imul, 1) := dk_104 (dk_at dksX1_estimate_0 13 rfl rfl)
theorem dX1_estimate_14 : decode cX1_estimate 14 = .ok (.iload_n 2, 1) := dk_28 (dk_at dksX1_estimate_0 14 rfl rfl)
theorem dX1_estimate_15 : decode cX1_estimate 15 = .ok (.iadd, 1) := dk_96 (dk_at dksX1_estimate_0 15 rfl rfl)
theorem dX1_estimate_16 : decode cX1_estimate 16 = .ok (.daload, 1) := dk_49 (dk_at dksX1_estimate_0 16 rfl rfl)
theorem dX1_estimate_17 : decode cX1_estimate 17 = .ok (.dreturn, 1) := dk_175 (dk_at dksX1_estimate_0 17 rfl rfl)
abbrev cX1_sum : ByteArray := prog_1_method_36_code
def yX1_sum : MethodName := ⟨RX1, "sum", "(IZ)D"⟩
def dkwX1_sum_1 : List UInt8 := [180, 0, 7, 182, 0, 128, 175]
abbrev dktX1_sum_1 : List UInt8 := dkwX1_sum_1 ++ []
def dkwX1_sum_0 : List UInt8 := [42, 27, 182, 0, 20, 28, 153, 0, 9, 178, 0, 136, 167, 0, 6, 178, 0, 122, 42, 180, 0, 50, 27, 42]
abbrev dktX1_sum_0 : List UInt8 := dkwX1_sum_0 ++ dktX1_sum_1
theorem dksX1_sum_0 : cX1_sum.data.toList.drop 0 = dktX1_sum_0 := by decide +kernel
theorem dksX1_sum_1 : cX1_sum.data.toList.drop 24 = dktX1_sum_1 := dk_seg dksX1_sum_0 24 rfl rfl
theorem dX1_sum_0 : decode cX1_sum 0 = .ok (.aload_n 0, 1) := dk_42 (dk_at dksX1_sum_0 0 rfl rfl)
theorem dX1_sum_1 : decode cX1_sum 1 = .ok (.iload_n 1, 1) := dk_27 (dk_at dksX1_sum_0 1 rfl rfl)
theorem dX1_sum_2 : decode cX1_sum 2 = .ok (.invokevirtual 20, 3) := dk_182 0 20 (dk_at dksX1_sum_0 2 rfl rfl)
theorem dX1_sum_5 : decode cX1_sum 5 = .ok (.iload_n 2, 1) := dk_28 (dk_at dksX1_sum_0 5 rfl rfl)
theorem dX1_sum_6 : decode cX1_sum 6 = .ok (.ifCond .eq 9, 3) := dk_153 0 9 (dk_at dksX1_sum_0 6 rfl rfl)
theorem dX1_sum_9 : decode cX1_sum 9 = .ok (.getstatic 136, 3) := dk_178 0 136 (dk_at dksX1_sum_0 9 rfl rfl)
theorem dX1_sum_12 : decode cX1_sum 12 = .ok (.goto 6, 3) := dk_167 0 6 (dk_at dksX1_sum_0 12 rfl rfl)
theorem dX1_sum_15 : decode cX1_sum 15 = .ok (.getstatic 122, 3) := dk_178 0 122 (dk_at dksX1_sum_0 15 rfl rfl)
theorem dX1_sum_18 : decode cX1_sum 18 = .ok (.aload_n 0, 1) := dk_42 (dk_at dksX1_sum_0 18 rfl rfl)
theorem dX1_sum_19 : decode cX1_sum 19 = .ok (.getfield 50, 3) := dk_180 0 50 (dk_at dksX1_sum_0 19 rfl rfl)
theorem dX1_sum_22 : decode cX1_sum 22 = .ok (.iload_n 1, 1) := dk_27 (dk_at dksX1_sum_0 22 rfl rfl)
theorem dX1_sum_23 : decode cX1_sum 23 = .ok (.aload_n 0, 1) := dk_42 (dk_at dksX1_sum_0 23 rfl rfl)
theorem dX1_sum_24 : decode cX1_sum 24 = .ok (.getfield 7, 3) := dk_180 0 7 (dk_at dksX1_sum_1 0 rfl rfl)
theorem dX1_sum_27 : decode cX1_sum 27 = .ok (.invokevirtual 128, 3) := dk_182 0 128 (dk_at dksX1_sum_1 3 rfl rfl)
theorem dX1_sum_30 : decode cX1_sum 30 = .ok (.dreturn, 1) := dk_175 (dk_at dksX1_sum_1 6 rfl rfl)
abbrev cX1_share : ByteArray := prog_1_method_38_code
def yX1_share : MethodName := ⟨RX1, "share", "(II)D"⟩
def dkwX1_share_1 : List UInt8 := [151, 158, 0, 19, 42, 180, 0, 50, 16, 6, 27, 104, 28, 96, 49, 41, 111, 167, 0, 4, 14, 175]
abbrev dktX1_share_1 : List UInt8 := dkwX1_share_1 ++ []
def dkwX1_share_0 : List UInt8 := [42, 27, 28, 182, 0, 71, 178, 0, 122, 42, 180, 0, 50, 27, 42, 180, 0, 7, 182, 0, 128, 74, 41, 14]
abbrev dktX1_share_0 : List UInt8 := dkwX1_share_0 ++ dktX1_share_1
theorem dksX1_share_0 : cX1_share.data.toList.drop 0 = dktX1_share_0 := by decide +kernel
theorem dksX1_share_1 : cX1_share.data.toList.drop 24 = dktX1_share_1 := dk_seg dksX1_share_0 24 rfl rfl
theorem dX1_share_0 : decode cX1_share 0 = .ok (.aload_n 0, 1) := dk_42 (dk_at dksX1_share_0 0 rfl rfl)
theorem dX1_share_1 : decode cX1_share 1 = .ok (.iload_n 1, 1) := dk_27 (dk_at dksX1_share_0 1 rfl rfl)
theorem dX1_share_2 : decode cX1_share 2 = .ok (.iload_n 2, 1) := dk_28 (dk_at dksX1_share_0 2 rfl rfl)
theorem dX1_share_3 : decode cX1_share 3 = .ok (.invokevirtual 71, 3) := dk_182 0 71 (dk_at dksX1_share_0 3 rfl rfl)
theorem dX1_share_6 : decode cX1_share 6 = .ok (.getstatic 122, 3) := dk_178 0 122 (dk_at dksX1_share_0 6 rfl rfl)
theorem dX1_share_9 : decode cX1_share 9 = .ok (.aload_n 0, 1) := dk_42 (dk_at dksX1_share_0 9 rfl rfl)
theorem dX1_share_10 : decode cX1_share 10 = .ok (.getfield 50, 3) := dk_180 0 50 (dk_at dksX1_share_0 10 rfl rfl)
theorem dX1_share_13 : decode cX1_share 13 = .ok (.iload_n 1, 1) := dk_27 (dk_at dksX1_share_0 13 rfl rfl)
theorem dX1_share_14 : decode cX1_share 14 = .ok (.aload_n 0, 1) := dk_42 (dk_at dksX1_share_0 14 rfl rfl)
theorem dX1_share_15 : decode cX1_share 15 = .ok (.getfield 7, 3) := dk_180 0 7 (dk_at dksX1_share_0 15 rfl rfl)
theorem dX1_share_18 : decode cX1_share 18 = .ok (.invokevirtual 128, 3) := dk_182 0 128 (dk_at dksX1_share_0 18 rfl rfl)
theorem dX1_share_21 : decode cX1_share 21 = .ok (.dstore_n 3, 1) := dk_74 (dk_at dksX1_share_0 21 rfl rfl)
theorem dX1_share_22 : decode cX1_share 22 = .ok (.dload_n 3, 1) := dk_41 (dk_at dksX1_share_0 22 rfl rfl)
theorem dX1_share_23 : decode cX1_share 23 = .ok (.dconst 0, 1) := dk_14 (dk_at dksX1_share_0 23 rfl rfl)
theorem dX1_share_24 : decode cX1_share 24 = .ok (.dcmp .l, 1) := dk_151 (dk_at dksX1_share_1 0 rfl rfl)
theorem dX1_share_25 : decode cX1_share 25 = .ok (.ifCond .le 19, 3) := dk_158 0 19 (dk_at dksX1_share_1 1 rfl rfl)
theorem dX1_share_28 : decode cX1_share 28 = .ok (.aload_n 0, 1) := dk_42 (dk_at dksX1_share_1 4 rfl rfl)
theorem dX1_share_29 : decode cX1_share 29 = .ok (.getfield 50, 3) := dk_180 0 50 (dk_at dksX1_share_1 5 rfl rfl)
theorem dX1_share_32 : decode cX1_share 32 = .ok (.bipush 6, 2) := dk_16 6 (dk_at dksX1_share_1 8 rfl rfl)
theorem dX1_share_34 : decode cX1_share 34 = .ok (.iload_n 1, 1) := dk_27 (dk_at dksX1_share_1 10 rfl rfl)
theorem dX1_share_35 : decode cX1_share 35 = .ok (.imul, 1) := dk_104 (dk_at dksX1_share_1 11 rfl rfl)
theorem dX1_share_36 : decode cX1_share 36 = .ok (.iload_n 2, 1) := dk_28 (dk_at dksX1_share_1 12 rfl rfl)
theorem dX1_share_37 : decode cX1_share 37 = .ok (.iadd, 1) := dk_96 (dk_at dksX1_share_1 13 rfl rfl)
theorem dX1_share_38 : decode cX1_share 38 = .ok (.daload, 1) := dk_49 (dk_at dksX1_share_1 14 rfl rfl)
theorem dX1_share_39 : decode cX1_share 39 = .ok (.dload_n 3, 1) := dk_41 (dk_at dksX1_share_1 15 rfl rfl)
theorem dX1_share_40 : decode cX1_share 40 = .ok (.ddiv, 1) := dk_111 (dk_at dksX1_share_1 16 rfl rfl)
theorem dX1_share_41 : decode cX1_share 41 = .ok (.goto 4, 3) := dk_167 0 4 (dk_at dksX1_share_1 17 rfl rfl)
theorem dX1_share_44 : decode cX1_share 44 = .ok (.dconst 0, 1) := dk_14 (dk_at dksX1_share_1 20 rfl rfl)
theorem dX1_share_45 : decode cX1_share 45 = .ok (.dreturn, 1) := dk_175 (dk_at dksX1_share_1 21 rfl rfl)
abbrev cX1_crossRatio : ByteArray := prog_1_method_40_code
def yX1_crossRatio : MethodName := ⟨RX1, "crossRatio", "(IIII)D"⟩
def dkwX1_crossRatio_2 : List UInt8 := [24, 5, 111, 175]
abbrev dktX1_crossRatio_2 : List UInt8 := dkwX1_crossRatio_2 ++ []
def dkwX1_crossRatio_1 : List UInt8 := [24, 5, 14, 151, 157, 0, 11, 187, 0, 150, 89, 183, 0, 152, 191, 42, 27, 28, 29, 21, 4, 182, 0, 146]
abbrev dktX1_crossRatio_1 : List UInt8 := dkwX1_crossRatio_1 ++ dktX1_crossRatio_2
def dkwX1_crossRatio_0 : List UInt8 := [42, 27, 28, 182, 0, 71, 42, 29, 21, 4, 182, 0, 71, 42, 27, 28, 21, 4, 29, 182, 0, 146, 57, 5]
abbrev dktX1_crossRatio_0 : List UInt8 := dkwX1_crossRatio_0 ++ dktX1_crossRatio_1
theorem dksX1_crossRatio_0 : cX1_crossRatio.data.toList.drop 0 = dktX1_crossRatio_0 := by decide +kernel
theorem dksX1_crossRatio_1 : cX1_crossRatio.data.toList.drop 24 = dktX1_crossRatio_1 := dk_seg dksX1_crossRatio_0 24 rfl rfl
theorem dksX1_crossRatio_2 : cX1_crossRatio.data.toList.drop 48 = dktX1_crossRatio_2 := dk_seg dksX1_crossRatio_1 24 rfl rfl
theorem dX1_crossRatio_0 : decode cX1_crossRatio 0 = .ok (.aload_n 0, 1) := dk_42 (dk_at dksX1_crossRatio_0 0 rfl rfl)
theorem dX1_crossRatio_1 : decode cX1_crossRatio 1 = .ok (.iload_n 1, 1) := dk_27 (dk_at dksX1_crossRatio_0 1 rfl rfl)
theorem dX1_crossRatio_2 : decode cX1_crossRatio 2 = .ok (.iload_n 2, 1) := dk_28 (dk_at dksX1_crossRatio_0 2 rfl rfl)
theorem dX1_crossRatio_3 : decode cX1_crossRatio 3 = .ok (.invokevirtual 71, 3) := dk_182 0 71 (dk_at dksX1_crossRatio_0 3 rfl rfl)
theorem dX1_crossRatio_6 : decode cX1_crossRatio 6 = .ok (.aload_n 0, 1) := dk_42 (dk_at dksX1_crossRatio_0 6 rfl rfl)
theorem dX1_crossRatio_7 : decode cX1_crossRatio 7 = .ok (.iload_n 3, 1) := dk_29 (dk_at dksX1_crossRatio_0 7 rfl rfl)
theorem dX1_crossRatio_8 : decode cX1_crossRatio 8 = .ok (.iload 4, 2) := dk_21 4 (dk_at dksX1_crossRatio_0 8 rfl rfl)
theorem dX1_crossRatio_10 : decode cX1_crossRatio 10 = .ok (.invokevirtual 71, 3) := dk_182 0 71 (dk_at dksX1_crossRatio_0 10 rfl rfl)
theorem dX1_crossRatio_13 : decode cX1_crossRatio 13 = .ok (.aload_n 0, 1) := dk_42 (dk_at dksX1_crossRatio_0 13 rfl rfl)
theorem dX1_crossRatio_14 : decode cX1_crossRatio 14 = .ok (.iload_n 1, 1) := dk_27 (dk_at dksX1_crossRatio_0 14 rfl rfl)
theorem dX1_crossRatio_15 : decode cX1_crossRatio 15 = .ok (.iload_n 2, 1) := dk_28 (dk_at dksX1_crossRatio_0 15 rfl rfl)
theorem dX1_crossRatio_16 : decode cX1_crossRatio 16 = .ok (.iload 4, 2) := dk_21 4 (dk_at dksX1_crossRatio_0 16 rfl rfl)
theorem dX1_crossRatio_18 : decode cX1_crossRatio 18 = .ok (.iload_n 3, 1) := dk_29 (dk_at dksX1_crossRatio_0 18 rfl rfl)
theorem dX1_crossRatio_19 : decode cX1_crossRatio 19 = .ok (.invokevirtual 146, 3) := dk_182 0 146 (dk_at dksX1_crossRatio_0 19 rfl rfl)
theorem dX1_crossRatio_22 : decode cX1_crossRatio 22 = .ok (.dstore 5, 2) := dk_57 5 (dk_at dksX1_crossRatio_0 22 rfl rfl)
theorem dX1_crossRatio_24 : decode cX1_crossRatio 24 = .ok (.dload 5, 2) := dk_24 5 (dk_at dksX1_crossRatio_1 0 rfl rfl)
theorem dX1_crossRatio_26 : decode cX1_crossRatio 26 = .ok (.dconst 0, 1) := dk_14 (dk_at dksX1_crossRatio_1 2 rfl rfl)
theorem dX1_crossRatio_27 : decode cX1_crossRatio 27 = .ok (.dcmp .l, 1) := dk_151 (dk_at dksX1_crossRatio_1 3 rfl rfl)
theorem dX1_crossRatio_28 : decode cX1_crossRatio 28 = .ok (.ifCond .gt 11, 3) := dk_157 0 11 (dk_at dksX1_crossRatio_1 4 rfl rfl)
theorem dX1_crossRatio_31 : decode cX1_crossRatio 31 = .ok (.new 150, 3) := dk_187 0 150 (dk_at dksX1_crossRatio_1 7 rfl rfl)
theorem dX1_crossRatio_34 : decode cX1_crossRatio 34 = .ok (.dup, 1) := dk_89 (dk_at dksX1_crossRatio_1 10 rfl rfl)
theorem dX1_crossRatio_35 : decode cX1_crossRatio 35 = .ok (.invokespecial 152, 3) := dk_183 0 152 (dk_at dksX1_crossRatio_1 11 rfl rfl)
theorem dX1_crossRatio_38 : decode cX1_crossRatio 38 = .ok (.athrow, 1) := dk_191 (dk_at dksX1_crossRatio_1 14 rfl rfl)
theorem dX1_crossRatio_39 : decode cX1_crossRatio 39 = .ok (.aload_n 0, 1) := dk_42 (dk_at dksX1_crossRatio_1 15 rfl rfl)
theorem dX1_crossRatio_40 : decode cX1_crossRatio 40 = .ok (.iload_n 1, 1) := dk_27 (dk_at dksX1_crossRatio_1 16 rfl rfl)
theorem dX1_crossRatio_41 : decode cX1_crossRatio 41 = .ok (.iload_n 2, 1) := dk_28 (dk_at dksX1_crossRatio_1 17 rfl rfl)
theorem dX1_crossRatio_42 : decode cX1_crossRatio 42 = .ok (.iload_n 3, 1) := dk_29 (dk_at dksX1_crossRatio_1 18 rfl rfl)
theorem dX1_crossRatio_43 : decode cX1_crossRatio 43 = .ok (.iload 4, 2) := dk_21 4 (dk_at dksX1_crossRatio_1 19 rfl rfl)
theorem dX1_crossRatio_45 : decode cX1_crossRatio 45 = .ok (.invokevirtual 146, 3) := dk_182 0 146 (dk_at dksX1_crossRatio_1 21 rfl rfl)
theorem dX1_crossRatio_48 : decode cX1_crossRatio 48 = .ok (.dload 5, 2) := dk_24 5 (dk_at dksX1_crossRatio_2 0 rfl rfl)
theorem dX1_crossRatio_50 : decode cX1_crossRatio 50 = .ok (.ddiv, 1) := dk_111 (dk_at dksX1_crossRatio_2 2 rfl rfl)
theorem dX1_crossRatio_51 : decode cX1_crossRatio 51 = .ok (.dreturn, 1) := dk_175 (dk_at dksX1_crossRatio_2 3 rfl rfl)
abbrev cX1_product : ByteArray := prog_1_method_39_code
def yX1_product : MethodName := ⟨RX1, "product", "(IIII)D"⟩
def dkwX1_product_1 : List UInt8 := [175]
abbrev dktX1_product_1 : List UInt8 := dkwX1_product_1 ++ []
def dkwX1_product_0 : List UInt8 := [42, 180, 0, 50, 16, 6, 27, 104, 29, 96, 49, 42, 180, 0, 50, 16, 6, 28, 104, 21, 4, 96, 49, 107]
abbrev dktX1_product_0 : List UInt8 := dkwX1_product_0 ++ dktX1_product_1
theorem dksX1_product_0 : cX1_product.data.toList.drop 0 = dktX1_product_0 := by decide +kernel
theorem dksX1_product_1 : cX1_product.data.toList.drop 24 = dktX1_product_1 := dk_seg dksX1_product_0 24 rfl rfl
theorem dX1_product_0 : decode cX1_product 0 = .ok (.aload_n 0, 1) := dk_42 (dk_at dksX1_product_0 0 rfl rfl)
theorem dX1_product_1 : decode cX1_product 1 = .ok (.getfield 50, 3) := dk_180 0 50 (dk_at dksX1_product_0 1 rfl rfl)
theorem dX1_product_4 : decode cX1_product 4 = .ok (.bipush 6, 2) := dk_16 6 (dk_at dksX1_product_0 4 rfl rfl)
theorem dX1_product_6 : decode cX1_product 6 = .ok (.iload_n 1, 1) := dk_27 (dk_at dksX1_product_0 6 rfl rfl)
theorem dX1_product_7 : decode cX1_product 7 = .ok (.imul, 1) := dk_104 (dk_at dksX1_product_0 7 rfl rfl)
theorem dX1_product_8 : decode cX1_product 8 = .ok (.iload_n 3, 1) := dk_29 (dk_at dksX1_product_0 8 rfl rfl)
theorem dX1_product_9 : decode cX1_product 9 = .ok (.iadd, 1) := dk_96 (dk_at dksX1_product_0 9 rfl rfl)
theorem dX1_product_10 : decode cX1_product 10 = .ok (.daload, 1) := dk_49 (dk_at dksX1_product_0 10 rfl rfl)
theorem dX1_product_11 : decode cX1_product 11 = .ok (.aload_n 0, 1) := dk_42 (dk_at dksX1_product_0 11 rfl rfl)
theorem dX1_product_12 : decode cX1_product 12 = .ok (.getfield 50, 3) := dk_180 0 50 (dk_at dksX1_product_0 12 rfl rfl)
theorem dX1_product_15 : decode cX1_product 15 = .ok (.bipush 6, 2) := dk_16 6 (dk_at dksX1_product_0 15 rfl rfl)
theorem dX1_product_17 : decode cX1_product 17 = .ok (.iload_n 2, 1) := dk_28 (dk_at dksX1_product_0 17 rfl rfl)
theorem dX1_product_18 : decode cX1_product 18 = .ok (.imul, 1) := dk_104 (dk_at dksX1_product_0 18 rfl rfl)
theorem dX1_product_19 : decode cX1_product 19 = .ok (.iload 4, 2) := dk_21 4 (dk_at dksX1_product_0 19 rfl rfl)
theorem dX1_product_21 : decode cX1_product 21 = .ok (.iadd, 1) := dk_96 (dk_at dksX1_product_0 21 rfl rfl)
theorem dX1_product_22 : decode cX1_product 22 = .ok (.daload, 1) := dk_49 (dk_at dksX1_product_0 22 rfl rfl)
theorem dX1_product_23 : decode cX1_product 23 = .ok (.dmul, 1) := dk_107 (dk_at dksX1_product_0 23 rfl rfl)
theorem dX1_product_24 : decode cX1_product 24 = .ok (.dreturn, 1) := dk_175 (dk_at dksX1_product_1 0 rfl rfl)
abbrev cX1_rounded : ByteArray := prog_1_method_43_code
def yX1_rounded : MethodName := ⟨RX1, "rounded", "(II)I"⟩
def dkwX1_rounded_0 : List UInt8 := [42, 27, 28, 182, 0, 71, 187, 0, 156, 89, 42, 27, 183, 0, 158, 180, 0, 160, 28, 46, 172]
abbrev dktX1_rounded_0 : List UInt8 := dkwX1_rounded_0 ++ []
theorem dksX1_rounded_0 : cX1_rounded.data.toList.drop 0 = dktX1_rounded_0 := by decide +kernel
theorem dX1_rounded_0 : decode cX1_rounded 0 = .ok (.aload_n 0, 1) := dk_42 (dk_at dksX1_rounded_0 0 rfl rfl)
theorem dX1_rounded_1 : decode cX1_rounded 1 = .ok (.iload_n 1, 1) := dk_27 (dk_at dksX1_rounded_0 1 rfl rfl)
theorem dX1_rounded_2 : decode cX1_rounded 2 = .ok (.iload_n 2, 1) := dk_28 (dk_at dksX1_rounded_0 2 rfl rfl)
theorem dX1_rounded_3 : decode cX1_rounded 3 = .ok (.invokevirtual 71, 3) := dk_182 0 71 (dk_at dksX1_rounded_0 3 rfl rfl)
theorem dX1_rounded_6 : decode cX1_rounded 6 = .ok (.new 156, 3) := dk_187 0 156 (dk_at dksX1_rounded_0 6 rfl rfl)
theorem dX1_rounded_9 : decode cX1_rounded 9 = .ok (.dup, 1) := dk_89 (dk_at dksX1_rounded_0 9 rfl rfl)
theorem dX1_rounded_10 : decode cX1_rounded 10 = .ok (.aload_n 0, 1) := dk_42 (dk_at dksX1_rounded_0 10 rfl rfl)
theorem dX1_rounded_11 : decode cX1_rounded 11 = .ok (.iload_n 1, 1) := dk_27 (dk_at dksX1_rounded_0 11 rfl rfl)
theorem dX1_rounded_12 : decode cX1_rounded 12 = .ok (.invokespecial 158, 3) := dk_183 0 158 (dk_at dksX1_rounded_0 12 rfl rfl)
theorem dX1_rounded_15 : decode cX1_rounded 15 = .ok (.getfield 160, 3) := dk_180 0 160 (dk_at dksX1_rounded_0 15 rfl rfl)
theorem dX1_rounded_18 : decode cX1_rounded 18 = .ok (.iload_n 2, 1) := dk_28 (dk_at dksX1_rounded_0 18 rfl rfl)
theorem dX1_rounded_19 : decode cX1_rounded 19 = .ok (.iaload, 1) := dk_46 (dk_at dksX1_rounded_0 19 rfl rfl)
theorem dX1_rounded_20 : decode cX1_rounded 20 = .ok (.ireturn, 1) := dk_172 (dk_at dksX1_rounded_0 20 rfl rfl)
abbrev cX1_possible : ByteArray := prog_1_method_46_code
def yX1_possible : MethodName := ⟨RX1, "possible", "(II)I"⟩
def dkwX1_possible_1 : List UInt8 := [16, 6, 27, 104, 28, 96, 46, 167, 0, 4, 2, 172]
abbrev dktX1_possible_1 : List UInt8 := dkwX1_possible_1 ++ []
def dkwX1_possible_0 : List UInt8 := [42, 27, 28, 182, 0, 71, 42, 182, 0, 109, 153, 0, 24, 187, 0, 171, 89, 42, 183, 0, 173, 180, 0, 176]
abbrev dktX1_possible_0 : List UInt8 := dkwX1_possible_0 ++ dktX1_possible_1
theorem dksX1_possible_0 : cX1_possible.data.toList.drop 0 = dktX1_possible_0 := by decide +kernel
theorem dksX1_possible_1 : cX1_possible.data.toList.drop 24 = dktX1_possible_1 := dk_seg dksX1_possible_0 24 rfl rfl
theorem dX1_possible_0 : decode cX1_possible 0 = .ok (.aload_n 0, 1) := dk_42 (dk_at dksX1_possible_0 0 rfl rfl)
theorem dX1_possible_1 : decode cX1_possible 1 = .ok (.iload_n 1, 1) := dk_27 (dk_at dksX1_possible_0 1 rfl rfl)
theorem dX1_possible_2 : decode cX1_possible 2 = .ok (.iload_n 2, 1) := dk_28 (dk_at dksX1_possible_0 2 rfl rfl)
theorem dX1_possible_3 : decode cX1_possible 3 = .ok (.invokevirtual 71, 3) := dk_182 0 71 (dk_at dksX1_possible_0 3 rfl rfl)
theorem dX1_possible_6 : decode cX1_possible 6 = .ok (.aload_n 0, 1) := dk_42 (dk_at dksX1_possible_0 6 rfl rfl)
theorem dX1_possible_7 : decode cX1_possible 7 = .ok (.invokevirtual 109, 3) := dk_182 0 109 (dk_at dksX1_possible_0 7 rfl rfl)
theorem dX1_possible_10 : decode cX1_possible 10 = .ok (.ifCond .eq 24, 3) := dk_153 0 24 (dk_at dksX1_possible_0 10 rfl rfl)
theorem dX1_possible_13 : decode cX1_possible 13 = .ok (.new 171, 3) := dk_187 0 171 (dk_at dksX1_possible_0 13 rfl rfl)
theorem dX1_possible_16 : decode cX1_possible 16 = .ok (.dup, 1) := dk_89 (dk_at dksX1_possible_0 16 rfl rfl)
theorem dX1_possible_17 : decode cX1_possible 17 = .ok (.aload_n 0, 1) := dk_42 (dk_at dksX1_possible_0 17 rfl rfl)
theorem dX1_possible_18 : decode cX1_possible 18 = .ok (.invokespecial 173, 3) := dk_183 0 173 (dk_at dksX1_possible_0 18 rfl rfl)
theorem dX1_possible_21 : decode cX1_possible 21 = .ok (.getfield 176, 3) := dk_180 0 176 (dk_at dksX1_possible_0 21 rfl rfl)
theorem dX1_possible_24 : decode cX1_possible 24 = .ok (.bipush 6, 2) := dk_16 6 (dk_at dksX1_possible_1 0 rfl rfl)
theorem dX1_possible_26 : decode cX1_possible 26 = .ok (.iload_n 1, 1) := dk_27 (dk_at dksX1_possible_1 2 rfl rfl)
theorem dX1_possible_27 : decode cX1_possible 27 = .ok (.imul, 1) := dk_104 (dk_at dksX1_possible_1 3 rfl rfl)
theorem dX1_possible_28 : decode cX1_possible 28 = .ok (.iload_n 2, 1) := dk_28 (dk_at dksX1_possible_1 4 rfl rfl)
theorem dX1_possible_29 : decode cX1_possible 29 = .ok (.iadd, 1) := dk_96 (dk_at dksX1_possible_1 5 rfl rfl)
theorem dX1_possible_30 : decode cX1_possible 30 = .ok (.iaload, 1) := dk_46 (dk_at dksX1_possible_1 6 rfl rfl)
theorem dX1_possible_31 : decode cX1_possible 31 = .ok (.goto 4, 3) := dk_167 0 4 (dk_at dksX1_possible_1 7 rfl rfl)
theorem dX1_possible_34 : decode cX1_possible 34 = .ok (.iconst (-1), 1) := dk_2 (dk_at dksX1_possible_1 10 rfl rfl)
theorem dX1_possible_35 : decode cX1_possible 35 = .ok (.ireturn, 1) := dk_172 (dk_at dksX1_possible_1 11 rfl rfl)
theorem q50 : (Jvm.Cond.initialized "TurnEstimator") ∈ lw_all := lw_g (lw_at lw_m1 1 rfl) rfl
theorem q69 : (Jvm.Cond.instantiable "TurnEstimator" (9 : Nat)) ∈ lw_all := lw_g (lw_at lw_m1 20 rfl) rfl
theorem q71 : (Jvm.Cond.instanceMethod ({ cls := "TurnEstimator", name := "<init>", desc := "()V" } : Jvm.MethodName)) ∈ lw_all := lw_g (lw_at lw_m1 22 rfl) rfl
theorem q72 : (Jvm.Cond.code ({ cls := "TurnEstimator", name := "<init>", desc := "()V" } : Jvm.MethodName) prog_1_method_6_code (1 : Nat) (Option.none : Option Jvm.ClassFile.FieldType)) ∈ lw_all := lw_g (lw_at lw_m1 23 rfl) rfl
theorem q73 : (Jvm.Cond.methodLink "TurnEstimator" (24 : Nat) ({ cls := "java/lang/Object", name := "<init>", desc := "()V" } : Jvm.MethodName)) ∈ lw_all := lw_g (lw_at lw_m1 24 rfl) rfl
theorem q76 : (Jvm.Cond.classLink "TurnEstimator" (27 : Nat) "TurnEstimator$RowStep") ∈ lw_all := lw_g (lw_at lw_m1 27 rfl) rfl
theorem q78 : (Jvm.Cond.methodLinkNest "TurnEstimator" (29 : Nat) ({ cls := "TurnEstimator$RowStep", name := "<init>", desc := "()V" } : Jvm.MethodName) "TurnEstimator") ∈ lw_tbl := lw_at lw_m1 29 rfl
theorem q83 : (Jvm.Cond.classLink "TurnEstimator" (34 : Nat) "TurnEstimator$ColumnStep") ∈ lw_all := lw_g (lw_at lw_m1 34 rfl) rfl
theorem q85 : (Jvm.Cond.methodLinkNest "TurnEstimator" (36 : Nat) ({ cls := "TurnEstimator$ColumnStep", name := "<init>", desc := "()V" } : Jvm.MethodName) "TurnEstimator") ∈ lw_tbl := lw_at lw_m1 36 rfl
theorem q90 : (Jvm.Cond.methodLink "TurnEstimator" (54 : Nat) ({ cls := "TurnEstimator", name := "begin", desc := "(I)V" } : Jvm.MethodName)) ∈ lw_all := lw_g (lw_at lw_m1 41 rfl) rfl
theorem q91 : (Jvm.Cond.privateMethod ({ cls := "TurnEstimator", name := "begin", desc := "(I)V" } : Jvm.MethodName)) ∈ lw_tbl := lw_at lw_m1 42 rfl
theorem q92 : (Jvm.Cond.instanceMethod ({ cls := "TurnEstimator", name := "begin", desc := "(I)V" } : Jvm.MethodName)) ∈ lw_all := lw_g (lw_at lw_m1 43 rfl) rfl
theorem q93 : (Jvm.Cond.code ({ cls := "TurnEstimator", name := "begin", desc := "(I)V" } : Jvm.MethodName) prog_1_method_7_code (4 : Nat) (Option.none : Option Jvm.ClassFile.FieldType)) ∈ lw_all := lw_g (lw_at lw_m1 44 rfl) rfl
theorem q94 : (Jvm.Cond.methodLink "TurnEstimator" (57 : Nat) ({ cls := "TurnEstimator", name := "resetNow", desc := "()V" } : Jvm.MethodName)) ∈ lw_all := lw_g (lw_at lw_m1 45 rfl) rfl
theorem q95 : (Jvm.Cond.privateMethod ({ cls := "TurnEstimator", name := "resetNow", desc := "()V" } : Jvm.MethodName)) ∈ lw_tbl := lw_at lw_m1 46 rfl
theorem q96 : (Jvm.Cond.instanceMethod ({ cls := "TurnEstimator", name := "resetNow", desc := "()V" } : Jvm.MethodName)) ∈ lw_all := lw_g (lw_at lw_m1 47 rfl) rfl
theorem q97 : (Jvm.Cond.code ({ cls := "TurnEstimator", name := "resetNow", desc := "()V" } : Jvm.MethodName) prog_1_method_8_code (2 : Nat) (Option.none : Option Jvm.ClassFile.FieldType)) ∈ lw_all := lw_g (lw_at lw_m1 48 rfl) rfl
theorem q98 : (Jvm.Cond.fieldLink "TurnEstimator" (30 : Nat) "TurnEstimator" "rowStep" "LTurnEstimator$Step;") ∈ lw_all := lw_g (lw_at lw_m1 49 rfl) rfl
theorem q99 : (Jvm.Cond.fieldLink "TurnEstimator" (37 : Nat) "TurnEstimator" "columnStep" "LTurnEstimator$Step;") ∈ lw_all := lw_g (lw_at lw_m1 50 rfl) rfl
theorem q103 : (Jvm.Cond.fieldLink "TurnEstimator" (7 : Nat) "TurnEstimator" "many" "I") ∈ lw_all := lw_g (lw_at lw_m1 54 rfl) rfl
theorem q107 : (Jvm.Cond.fieldLink "TurnEstimator" (40 : Nat) "TurnEstimator" "inflows" "[I") ∈ lw_all := lw_g (lw_at lw_m1 58 rfl) rfl
theorem q110 : (Jvm.Cond.fieldLink "TurnEstimator" (44 : Nat) "TurnEstimator" "outflows" "[I") ∈ lw_all := lw_g (lw_at lw_m1 61 rfl) rfl
theorem q113 : (Jvm.Cond.fieldLink "TurnEstimator" (47 : Nat) "TurnEstimator" "weights" "[I") ∈ lw_all := lw_g (lw_at lw_m1 64 rfl) rfl
theorem q116 : (Jvm.Cond.fieldLink "TurnEstimator" (50 : Nat) "TurnEstimator" "estimates" "[D") ∈ lw_all := lw_g (lw_at lw_m1 67 rfl) rfl
theorem q117 : (Jvm.Cond.fieldLink "TurnEstimator" (60 : Nat) "TurnEstimator" "done" "I") ∈ lw_all := lw_g (lw_at lw_m1 68 rfl) rfl
theorem q118 : (Jvm.Cond.fieldLink "TurnEstimator" (181 : Nat) "TurnEstimator" "hash" "J") ∈ lw_all := lw_g (lw_at lw_m1 69 rfl) rfl
theorem q119 : (Jvm.Cond.laysFinal "TurnEstimator" "TurnEstimator" "rowStep" "LTurnEstimator$Step;") ∈ lw_all := lw_g (lw_at lw_m1 70 rfl) rfl
theorem q120 : (Jvm.Cond.soleField "TurnEstimator" "rowStep") ∈ lw_all := lw_g (lw_at lw_m1 71 rfl) rfl
theorem q121 : (Jvm.Cond.laysFinal "TurnEstimator" "TurnEstimator" "columnStep" "LTurnEstimator$Step;") ∈ lw_all := lw_g (lw_at lw_m1 72 rfl) rfl
theorem q122 : (Jvm.Cond.soleField "TurnEstimator" "columnStep") ∈ lw_all := lw_g (lw_at lw_m1 73 rfl) rfl
theorem q123 : (Jvm.Cond.lays "TurnEstimator" "TurnEstimator" "many" "I") ∈ lw_all := lw_g (lw_at lw_m1 74 rfl) rfl
theorem q124 : (Jvm.Cond.soleField "TurnEstimator" "many") ∈ lw_all := lw_g (lw_at lw_m1 75 rfl) rfl
theorem q125 : (Jvm.Cond.laysFinal "TurnEstimator" "TurnEstimator" "inflows" "[I") ∈ lw_all := lw_g (lw_at lw_m1 76 rfl) rfl
theorem q126 : (Jvm.Cond.soleField "TurnEstimator" "inflows") ∈ lw_all := lw_g (lw_at lw_m1 77 rfl) rfl
theorem q127 : (Jvm.Cond.laysFinal "TurnEstimator" "TurnEstimator" "outflows" "[I") ∈ lw_all := lw_g (lw_at lw_m1 78 rfl) rfl
theorem q128 : (Jvm.Cond.soleField "TurnEstimator" "outflows") ∈ lw_all := lw_g (lw_at lw_m1 79 rfl) rfl
theorem q129 : (Jvm.Cond.laysFinal "TurnEstimator" "TurnEstimator" "weights" "[I") ∈ lw_all := lw_g (lw_at lw_m1 80 rfl) rfl
theorem q130 : (Jvm.Cond.soleField "TurnEstimator" "weights") ∈ lw_all := lw_g (lw_at lw_m1 81 rfl) rfl
theorem q131 : (Jvm.Cond.laysFinal "TurnEstimator" "TurnEstimator" "estimates" "[D") ∈ lw_all := lw_g (lw_at lw_m1 82 rfl) rfl
theorem q132 : (Jvm.Cond.soleField "TurnEstimator" "estimates") ∈ lw_all := lw_g (lw_at lw_m1 83 rfl) rfl
theorem q133 : (Jvm.Cond.lays "TurnEstimator" "TurnEstimator" "done" "I") ∈ lw_all := lw_g (lw_at lw_m1 84 rfl) rfl
theorem q134 : (Jvm.Cond.soleField "TurnEstimator" "done") ∈ lw_all := lw_g (lw_at lw_m1 85 rfl) rfl
theorem q135 : (Jvm.Cond.lays "TurnEstimator" "TurnEstimator" "hash" "J") ∈ lw_all := lw_g (lw_at lw_m1 86 rfl) rfl
theorem q136 : (Jvm.Cond.soleField "TurnEstimator" "hash") ∈ lw_all := lw_g (lw_at lw_m1 87 rfl) rfl
theorem q137 : (Jvm.Cond.superclass "TurnEstimator" "java/lang/Object") ∈ lw_all := lw_g (lw_at lw_m1 88 rfl) rfl
theorem q141 : (Jvm.Cond.instanceMethod ({ cls := "TurnEstimator", name := "arms", desc := "()I" } : Jvm.MethodName)) ∈ lw_all := lw_g (lw_at lw_m1 92 rfl) rfl
theorem q142 : (Jvm.Cond.selects "TurnEstimator" ({ cls := "TurnEstimator", name := "arms", desc := "()I" } : Jvm.MethodName) ({ cls := "TurnEstimator", name := "arms", desc := "()I" } : Jvm.MethodName)) ∈ lw_all := lw_g (lw_at lw_m1 93 rfl) rfl
theorem q143 : (Jvm.Cond.code ({ cls := "TurnEstimator", name := "arms", desc := "()I" } : Jvm.MethodName) prog_1_method_10_code (1 : Nat) (Option.some Jvm.ClassFile.FieldType.int)) ∈ lw_all := lw_g (lw_at lw_m1 94 rfl) rfl
theorem q145 : (Jvm.Cond.instanceMethod ({ cls := "TurnEstimator", name := "imbalance", desc := "()I" } : Jvm.MethodName)) ∈ lw_all := lw_g (lw_at lw_m1 96 rfl) rfl
theorem q146 : (Jvm.Cond.selects "TurnEstimator" ({ cls := "TurnEstimator", name := "imbalance", desc := "()I" } : Jvm.MethodName) ({ cls := "TurnEstimator", name := "imbalance", desc := "()I" } : Jvm.MethodName)) ∈ lw_all := lw_g (lw_at lw_m1 97 rfl) rfl
theorem q147 : (Jvm.Cond.code ({ cls := "TurnEstimator", name := "imbalance", desc := "()I" } : Jvm.MethodName) prog_1_method_21_code (1 : Nat) (Option.some Jvm.ClassFile.FieldType.int)) ∈ lw_all := lw_g (lw_at lw_m1 98 rfl) rfl
theorem q148 : (Jvm.Cond.methodLink "TurnEstimator" (94 : Nat) ({ cls := "TurnEstimator", name := "imbalanceNow", desc := "()I" } : Jvm.MethodName)) ∈ lw_all := lw_g (lw_at lw_m1 99 rfl) rfl
theorem q149 : (Jvm.Cond.privateMethod ({ cls := "TurnEstimator", name := "imbalanceNow", desc := "()I" } : Jvm.MethodName)) ∈ lw_tbl := lw_at lw_m1 100 rfl
theorem q150 : (Jvm.Cond.instanceMethod ({ cls := "TurnEstimator", name := "imbalanceNow", desc := "()I" } : Jvm.MethodName)) ∈ lw_all := lw_g (lw_at lw_m1 101 rfl) rfl
theorem q151 : (Jvm.Cond.code ({ cls := "TurnEstimator", name := "imbalanceNow", desc := "()I" } : Jvm.MethodName) prog_1_method_20_code (1 : Nat) (Option.some Jvm.ClassFile.FieldType.int)) ∈ lw_all := lw_g (lw_at lw_m1 102 rfl) rfl
theorem q152 : (Jvm.Cond.methodLink "TurnEstimator" (90 : Nat) ({ cls := "TurnEstimator", name := "total", desc := "([I)I" } : Jvm.MethodName)) ∈ lw_all := lw_g (lw_at lw_m1 103 rfl) rfl
theorem q153 : (Jvm.Cond.static ({ cls := "TurnEstimator", name := "total", desc := "([I)I" } : Jvm.MethodName)) ∈ lw_all := lw_g (lw_at lw_m1 104 rfl) rfl
theorem q154 : (Jvm.Cond.code ({ cls := "TurnEstimator", name := "total", desc := "([I)I" } : Jvm.MethodName) prog_1_method_18_code (6 : Nat) (Option.some Jvm.ClassFile.FieldType.int)) ∈ lw_all := lw_g (lw_at lw_m1 105 rfl) rfl
theorem q156 : (Jvm.Cond.instanceMethod ({ cls := "TurnEstimator", name := "isPossible", desc := "()Z" } : Jvm.MethodName)) ∈ lw_all := lw_g (lw_at lw_m1 107 rfl) rfl
theorem q157 : (Jvm.Cond.selects "TurnEstimator" ({ cls := "TurnEstimator", name := "isPossible", desc := "()Z" } : Jvm.MethodName) ({ cls := "TurnEstimator", name := "isPossible", desc := "()Z" } : Jvm.MethodName)) ∈ lw_all := lw_g (lw_at lw_m1 108 rfl) rfl
theorem q158 : (Jvm.Cond.code ({ cls := "TurnEstimator", name := "isPossible", desc := "()Z" } : Jvm.MethodName) prog_1_method_25_code (1 : Nat) (Option.some Jvm.ClassFile.FieldType.boolean)) ∈ lw_all := lw_g (lw_at lw_m1 109 rfl) rfl
theorem q159 : (Jvm.Cond.methodLink "TurnEstimator" (109 : Nat) ({ cls := "TurnEstimator", name := "arePossible", desc := "()Z" } : Jvm.MethodName)) ∈ lw_all := lw_g (lw_at lw_m1 110 rfl) rfl
theorem q160 : (Jvm.Cond.privateMethod ({ cls := "TurnEstimator", name := "arePossible", desc := "()Z" } : Jvm.MethodName)) ∈ lw_tbl := lw_at lw_m1 111 rfl
theorem q161 : (Jvm.Cond.instanceMethod ({ cls := "TurnEstimator", name := "arePossible", desc := "()Z" } : Jvm.MethodName)) ∈ lw_all := lw_g (lw_at lw_m1 112 rfl) rfl
theorem q162 : (Jvm.Cond.code ({ cls := "TurnEstimator", name := "arePossible", desc := "()Z" } : Jvm.MethodName) prog_1_method_24_code (1 : Nat) (Option.some Jvm.ClassFile.FieldType.boolean)) ∈ lw_all := lw_g (lw_at lw_m1 113 rfl) rfl
theorem q163 : (Jvm.Cond.methodLink "TurnEstimator" (106 : Nat) ({ cls := "TurnEstimator", name := "crowdedNow", desc := "()I" } : Jvm.MethodName)) ∈ lw_all := lw_g (lw_at lw_m1 114 rfl) rfl
theorem q164 : (Jvm.Cond.privateMethod ({ cls := "TurnEstimator", name := "crowdedNow", desc := "()I" } : Jvm.MethodName)) ∈ lw_tbl := lw_at lw_m1 115 rfl
theorem q165 : (Jvm.Cond.instanceMethod ({ cls := "TurnEstimator", name := "crowdedNow", desc := "()I" } : Jvm.MethodName)) ∈ lw_all := lw_g (lw_at lw_m1 116 rfl) rfl
theorem q166 : (Jvm.Cond.code ({ cls := "TurnEstimator", name := "crowdedNow", desc := "()I" } : Jvm.MethodName) prog_1_method_23_code (2 : Nat) (Option.some Jvm.ClassFile.FieldType.int)) ∈ lw_all := lw_g (lw_at lw_m1 117 rfl) rfl
theorem q167 : (Jvm.Cond.methodLink "TurnEstimator" (102 : Nat) ({ cls := "TurnEstimator", name := "excessOf", desc := "(I)I" } : Jvm.MethodName)) ∈ lw_all := lw_g (lw_at lw_m1 118 rfl) rfl
theorem q168 : (Jvm.Cond.privateMethod ({ cls := "TurnEstimator", name := "excessOf", desc := "(I)I" } : Jvm.MethodName)) ∈ lw_tbl := lw_at lw_m1 119 rfl
theorem q169 : (Jvm.Cond.instanceMethod ({ cls := "TurnEstimator", name := "excessOf", desc := "(I)I" } : Jvm.MethodName)) ∈ lw_all := lw_g (lw_at lw_m1 120 rfl) rfl
theorem q170 : (Jvm.Cond.code ({ cls := "TurnEstimator", name := "excessOf", desc := "(I)I" } : Jvm.MethodName) prog_1_method_22_code (6 : Nat) (Option.some Jvm.ClassFile.FieldType.int)) ∈ lw_all := lw_g (lw_at lw_m1 121 rfl) rfl
theorem q171 : (Jvm.Cond.methodLink "TurnEstimator" (98 : Nat) ({ cls := "TurnEstimator", name := "has", desc := "(II)Z" } : Jvm.MethodName)) ∈ lw_all := lw_g (lw_at lw_m1 122 rfl) rfl
theorem q172 : (Jvm.Cond.static ({ cls := "TurnEstimator", name := "has", desc := "(II)Z" } : Jvm.MethodName)) ∈ lw_all := lw_g (lw_at lw_m1 123 rfl) rfl
theorem q173 : (Jvm.Cond.code ({ cls := "TurnEstimator", name := "has", desc := "(II)Z" } : Jvm.MethodName) prog_1_method_3_code (2 : Nat) (Option.some Jvm.ClassFile.FieldType.boolean)) ∈ lw_all := lw_g (lw_at lw_m1 124 rfl) rfl
theorem q175 : (Jvm.Cond.instanceMethod ({ cls := "TurnEstimator", name := "crowdedSet", desc := "()I" } : Jvm.MethodName)) ∈ lw_all := lw_g (lw_at lw_m1 126 rfl) rfl
theorem q176 : (Jvm.Cond.selects "TurnEstimator" ({ cls := "TurnEstimator", name := "crowdedSet", desc := "()I" } : Jvm.MethodName) ({ cls := "TurnEstimator", name := "crowdedSet", desc := "()I" } : Jvm.MethodName)) ∈ lw_all := lw_g (lw_at lw_m1 127 rfl) rfl
theorem q177 : (Jvm.Cond.code ({ cls := "TurnEstimator", name := "crowdedSet", desc := "()I" } : Jvm.MethodName) prog_1_method_26_code (1 : Nat) (Option.some Jvm.ClassFile.FieldType.int)) ∈ lw_all := lw_g (lw_at lw_m1 128 rfl) rfl
theorem q179 : (Jvm.Cond.instanceMethod ({ cls := "TurnEstimator", name := "reset", desc := "()I" } : Jvm.MethodName)) ∈ lw_all := lw_g (lw_at lw_m1 130 rfl) rfl
theorem q180 : (Jvm.Cond.selects "TurnEstimator" ({ cls := "TurnEstimator", name := "reset", desc := "()I" } : Jvm.MethodName) ({ cls := "TurnEstimator", name := "reset", desc := "()I" } : Jvm.MethodName)) ∈ lw_all := lw_g (lw_at lw_m1 131 rfl) rfl
theorem q181 : (Jvm.Cond.code ({ cls := "TurnEstimator", name := "reset", desc := "()I" } : Jvm.MethodName) prog_1_method_33_code (2 : Nat) (Option.some Jvm.ClassFile.FieldType.int)) ∈ lw_all := lw_g (lw_at lw_m1 132 rfl) rfl
theorem q183 : (Jvm.Cond.instanceMethod ({ cls := "TurnEstimator", name := "rounds", desc := "()I" } : Jvm.MethodName)) ∈ lw_all := lw_g (lw_at lw_m1 134 rfl) rfl
theorem q184 : (Jvm.Cond.selects "TurnEstimator" ({ cls := "TurnEstimator", name := "rounds", desc := "()I" } : Jvm.MethodName) ({ cls := "TurnEstimator", name := "rounds", desc := "()I" } : Jvm.MethodName)) ∈ lw_all := lw_g (lw_at lw_m1 135 rfl) rfl
theorem q185 : (Jvm.Cond.code ({ cls := "TurnEstimator", name := "rounds", desc := "()I" } : Jvm.MethodName) prog_1_method_34_code (1 : Nat) (Option.some Jvm.ClassFile.FieldType.int)) ∈ lw_all := lw_g (lw_at lw_m1 136 rfl) rfl
theorem q187 : (Jvm.Cond.instanceMethod ({ cls := "TurnEstimator", name := "misfit", desc := "()D" } : Jvm.MethodName)) ∈ lw_all := lw_g (lw_at lw_m1 138 rfl) rfl
theorem q188 : (Jvm.Cond.selects "TurnEstimator" ({ cls := "TurnEstimator", name := "misfit", desc := "()D" } : Jvm.MethodName) ({ cls := "TurnEstimator", name := "misfit", desc := "()D" } : Jvm.MethodName)) ∈ lw_all := lw_g (lw_at lw_m1 139 rfl) rfl
theorem q189 : (Jvm.Cond.code ({ cls := "TurnEstimator", name := "misfit", desc := "()D" } : Jvm.MethodName) prog_1_method_37_code (1 : Nat) (Option.some Jvm.ClassFile.FieldType.double)) ∈ lw_all := lw_g (lw_at lw_m1 140 rfl) rfl
theorem q190 : (Jvm.Cond.methodLink "TurnEstimator" (142 : Nat) ({ cls := "TurnEstimator", name := "misfitNow", desc := "()D" } : Jvm.MethodName)) ∈ lw_all := lw_g (lw_at lw_m1 141 rfl) rfl
theorem q191 : (Jvm.Cond.privateMethod ({ cls := "TurnEstimator", name := "misfitNow", desc := "()D" } : Jvm.MethodName)) ∈ lw_tbl := lw_at lw_m1 142 rfl
theorem q192 : (Jvm.Cond.instanceMethod ({ cls := "TurnEstimator", name := "misfitNow", desc := "()D" } : Jvm.MethodName)) ∈ lw_all := lw_g (lw_at lw_m1 143 rfl) rfl
theorem q193 : (Jvm.Cond.code ({ cls := "TurnEstimator", name := "misfitNow", desc := "()D" } : Jvm.MethodName) prog_1_method_31_code (8 : Nat) (Option.some Jvm.ClassFile.FieldType.double)) ∈ lw_all := lw_g (lw_at lw_m1 144 rfl) rfl
theorem q194 : (Jvm.Cond.fieldLink "TurnEstimator" (122 : Nat) "TurnEstimator$Side" "ROW" "LTurnEstimator$Side;") ∈ lw_all := lw_g (lw_at lw_m1 145 rfl) rfl
theorem q196 : (Jvm.Cond.methodLink "TurnEstimator" (128 : Nat) ({ cls := "TurnEstimator$Side", name := "sum", desc := "([DII)D" } : Jvm.MethodName)) ∈ lw_all := lw_g (lw_at lw_m1 147 rfl) rfl
theorem q211 : (Jvm.Cond.methodLink "TurnEstimator" (132 : Nat) ({ cls := "TurnEstimator", name := "distance", desc := "(DD)D" } : Jvm.MethodName)) ∈ lw_all := lw_g (lw_at lw_m1 162 rfl) rfl
theorem q212 : (Jvm.Cond.static ({ cls := "TurnEstimator", name := "distance", desc := "(DD)D" } : Jvm.MethodName)) ∈ lw_all := lw_g (lw_at lw_m1 163 rfl) rfl
theorem q213 : (Jvm.Cond.code ({ cls := "TurnEstimator", name := "distance", desc := "(DD)D" } : Jvm.MethodName) prog_1_method_30_code (4 : Nat) (Option.some Jvm.ClassFile.FieldType.double)) ∈ lw_all := lw_g (lw_at lw_m1 164 rfl) rfl
theorem q214 : (Jvm.Cond.fieldLink "TurnEstimator" (136 : Nat) "TurnEstimator$Side" "COLUMN" "LTurnEstimator$Side;") ∈ lw_all := lw_g (lw_at lw_m1 165 rfl) rfl
theorem q217 : (Jvm.Cond.instanceMethod ({ cls := "TurnEstimator", name := "busiestTurn", desc := "()I" } : Jvm.MethodName)) ∈ lw_all := lw_g (lw_at lw_m1 168 rfl) rfl
theorem q218 : (Jvm.Cond.selects "TurnEstimator" ({ cls := "TurnEstimator", name := "busiestTurn", desc := "()I" } : Jvm.MethodName) ({ cls := "TurnEstimator", name := "busiestTurn", desc := "()I" } : Jvm.MethodName)) ∈ lw_all := lw_g (lw_at lw_m1 169 rfl) rfl
theorem q219 : (Jvm.Cond.code ({ cls := "TurnEstimator", name := "busiestTurn", desc := "()I" } : Jvm.MethodName) prog_1_method_42_code (1 : Nat) (Option.some Jvm.ClassFile.FieldType.int)) ∈ lw_all := lw_g (lw_at lw_m1 170 rfl) rfl
theorem q220 : (Jvm.Cond.methodLink "TurnEstimator" (153 : Nat) ({ cls := "TurnEstimator", name := "busiestNow", desc := "()I" } : Jvm.MethodName)) ∈ lw_all := lw_g (lw_at lw_m1 171 rfl) rfl
theorem q221 : (Jvm.Cond.privateMethod ({ cls := "TurnEstimator", name := "busiestNow", desc := "()I" } : Jvm.MethodName)) ∈ lw_tbl := lw_at lw_m1 172 rfl
theorem q222 : (Jvm.Cond.instanceMethod ({ cls := "TurnEstimator", name := "busiestNow", desc := "()I" } : Jvm.MethodName)) ∈ lw_all := lw_g (lw_at lw_m1 173 rfl) rfl
theorem q223 : (Jvm.Cond.code ({ cls := "TurnEstimator", name := "busiestNow", desc := "()I" } : Jvm.MethodName) prog_1_method_41_code (8 : Nat) (Option.some Jvm.ClassFile.FieldType.int)) ∈ lw_all := lw_g (lw_at lw_m1 174 rfl) rfl
theorem q225 : (Jvm.Cond.instanceMethod ({ cls := "TurnEstimator", name := "roundedMisfit", desc := "()I" } : Jvm.MethodName)) ∈ lw_all := lw_g (lw_at lw_m1 176 rfl) rfl
theorem q226 : (Jvm.Cond.selects "TurnEstimator" ({ cls := "TurnEstimator", name := "roundedMisfit", desc := "()I" } : Jvm.MethodName) ({ cls := "TurnEstimator", name := "roundedMisfit", desc := "()I" } : Jvm.MethodName)) ∈ lw_all := lw_g (lw_at lw_m1 177 rfl) rfl
theorem q227 : (Jvm.Cond.code ({ cls := "TurnEstimator", name := "roundedMisfit", desc := "()I" } : Jvm.MethodName) prog_1_method_45_code (1 : Nat) (Option.some Jvm.ClassFile.FieldType.int)) ∈ lw_all := lw_g (lw_at lw_m1 178 rfl) rfl
theorem q228 : (Jvm.Cond.methodLink "TurnEstimator" (168 : Nat) ({ cls := "TurnEstimator", name := "roundedMisfitNow", desc := "()I" } : Jvm.MethodName)) ∈ lw_all := lw_g (lw_at lw_m1 179 rfl) rfl
theorem q229 : (Jvm.Cond.privateMethod ({ cls := "TurnEstimator", name := "roundedMisfitNow", desc := "()I" } : Jvm.MethodName)) ∈ lw_tbl := lw_at lw_m1 180 rfl
theorem q230 : (Jvm.Cond.instanceMethod ({ cls := "TurnEstimator", name := "roundedMisfitNow", desc := "()I" } : Jvm.MethodName)) ∈ lw_all := lw_g (lw_at lw_m1 181 rfl) rfl
theorem q231 : (Jvm.Cond.code ({ cls := "TurnEstimator", name := "roundedMisfitNow", desc := "()I" } : Jvm.MethodName) prog_1_method_44_code (5 : Nat) (Option.some Jvm.ClassFile.FieldType.int)) ∈ lw_all := lw_g (lw_at lw_m1 182 rfl) rfl
theorem q232 : (Jvm.Cond.classLink "TurnEstimator" (156 : Nat) "TurnEstimator$Rounding") ∈ lw_all := lw_g (lw_at lw_m1 183 rfl) rfl
theorem q234 : (Jvm.Cond.methodLink "TurnEstimator" (158 : Nat) ({ cls := "TurnEstimator$Rounding", name := "<init>", desc := "(LTurnEstimator;I)V" } : Jvm.MethodName)) ∈ lw_all := lw_g (lw_at lw_m1 185 rfl) rfl
theorem q250 : (Jvm.Cond.fieldLinkNest "TurnEstimator" (160 : Nat) "TurnEstimator$Rounding" "wholes" "[I" "TurnEstimator") ∈ lw_tbl := lw_at lw_m1 201 rfl
theorem q263 : (Jvm.Cond.methodLink "TurnEstimator" (163 : Nat) ({ cls := "java/lang/Math", name := "abs", desc := "(I)I" } : Jvm.MethodName)) ∈ lw_all := lw_g (lw_at lw_m1 214 rfl) rfl
theorem q267 : (Jvm.Cond.instanceMethod ({ cls := "TurnEstimator", name := "digest", desc := "()J" } : Jvm.MethodName)) ∈ lw_all := lw_g (lw_at lw_m1 218 rfl) rfl
theorem q268 : (Jvm.Cond.selects "TurnEstimator" ({ cls := "TurnEstimator", name := "digest", desc := "()J" } : Jvm.MethodName) ({ cls := "TurnEstimator", name := "digest", desc := "()J" } : Jvm.MethodName)) ∈ lw_all := lw_g (lw_at lw_m1 219 rfl) rfl
theorem q269 : (Jvm.Cond.code ({ cls := "TurnEstimator", name := "digest", desc := "()J" } : Jvm.MethodName) prog_1_method_49_code (2 : Nat) (Option.some Jvm.ClassFile.FieldType.long)) ∈ lw_all := lw_g (lw_at lw_m1 220 rfl) rfl
theorem q270 : (Jvm.Cond.constantLong "TurnEstimator" (191 : Nat) (1873 : Int64)) ∈ lw_all := lw_g (lw_at lw_m1 221 rfl) rfl
theorem q271 : (Jvm.Cond.methodLink "TurnEstimator" (185 : Nat) ({ cls := "TurnEstimator", name := "mix", desc := "(J)V" } : Jvm.MethodName)) ∈ lw_all := lw_g (lw_at lw_m1 222 rfl) rfl
theorem q272 : (Jvm.Cond.privateMethod ({ cls := "TurnEstimator", name := "mix", desc := "(J)V" } : Jvm.MethodName)) ∈ lw_tbl := lw_at lw_m1 223 rfl
theorem q273 : (Jvm.Cond.instanceMethod ({ cls := "TurnEstimator", name := "mix", desc := "(J)V" } : Jvm.MethodName)) ∈ lw_all := lw_g (lw_at lw_m1 224 rfl) rfl
theorem q274 : (Jvm.Cond.code ({ cls := "TurnEstimator", name := "mix", desc := "(J)V" } : Jvm.MethodName) prog_1_method_47_code (3 : Nat) (Option.none : Option Jvm.ClassFile.FieldType)) ∈ lw_all := lw_g (lw_at lw_m1 225 rfl) rfl
theorem q275 : (Jvm.Cond.constantLong "TurnEstimator" (179 : Nat) (31 : Int64)) ∈ lw_all := lw_g (lw_at lw_m1 226 rfl) rfl
theorem q276 : (Jvm.Cond.methodLink "TurnEstimator" (193 : Nat) ({ cls := "TurnEstimator", name := "mixTurns", desc := "()V" } : Jvm.MethodName)) ∈ lw_all := lw_g (lw_at lw_m1 227 rfl) rfl
theorem q277 : (Jvm.Cond.privateMethod ({ cls := "TurnEstimator", name := "mixTurns", desc := "()V" } : Jvm.MethodName)) ∈ lw_tbl := lw_at lw_m1 228 rfl
theorem q278 : (Jvm.Cond.instanceMethod ({ cls := "TurnEstimator", name := "mixTurns", desc := "()V" } : Jvm.MethodName)) ∈ lw_all := lw_g (lw_at lw_m1 229 rfl) rfl
theorem q279 : (Jvm.Cond.code ({ cls := "TurnEstimator", name := "mixTurns", desc := "()V" } : Jvm.MethodName) prog_1_method_48_code (6 : Nat) (Option.none : Option Jvm.ClassFile.FieldType)) ∈ lw_all := lw_g (lw_at lw_m1 230 rfl) rfl
theorem q280 : (Jvm.Cond.classLink "TurnEstimator" (171 : Nat) "TurnEstimator$Whole") ∈ lw_all := lw_g (lw_at lw_m1 231 rfl) rfl
theorem q282 : (Jvm.Cond.methodLink "TurnEstimator" (173 : Nat) ({ cls := "TurnEstimator$Whole", name := "<init>", desc := "(LTurnEstimator;)V" } : Jvm.MethodName)) ∈ lw_all := lw_g (lw_at lw_m1 233 rfl) rfl
theorem q307 : (Jvm.Cond.fieldLinkNest "TurnEstimator" (176 : Nat) "TurnEstimator$Whole" "table" "[I" "TurnEstimator") ∈ lw_tbl := lw_at lw_m2 18 rfl
theorem q320 : (Jvm.Cond.constantDouble "TurnEstimator" (140 : Nat) (4652007308841189376 : UInt64)) ∈ lw_all := lw_g (lw_at lw_m2 31 rfl) rfl
theorem q321 : (Jvm.Cond.constantLong "TurnEstimator" (189 : Nat) (-1 : Int64)) ∈ lw_all := lw_g (lw_at lw_m2 32 rfl) rfl
theorem q327 : (Jvm.Cond.instanceMethod ({ cls := "TurnEstimator", name := "setArms", desc := "(I)I" } : Jvm.MethodName)) ∈ lw_all := lw_g (lw_at lw_m2 38 rfl) rfl
theorem q328 : (Jvm.Cond.selects "TurnEstimator" ({ cls := "TurnEstimator", name := "setArms", desc := "(I)I" } : Jvm.MethodName) ({ cls := "TurnEstimator", name := "setArms", desc := "(I)I" } : Jvm.MethodName)) ∈ lw_all := lw_g (lw_at lw_m2 39 rfl) rfl
theorem q329 : (Jvm.Cond.code ({ cls := "TurnEstimator", name := "setArms", desc := "(I)I" } : Jvm.MethodName) prog_1_method_9_code (3 : Nat) (Option.some Jvm.ClassFile.FieldType.int)) ∈ lw_all := lw_g (lw_at lw_m2 40 rfl) rfl
theorem q330 : (Jvm.Cond.methodLink "TurnEstimator" (13 : Nat) ({ cls := "TurnEstimator", name := "inRange", desc := "(III)Z" } : Jvm.MethodName)) ∈ lw_all := lw_g (lw_at lw_m2 41 rfl) rfl
theorem q331 : (Jvm.Cond.static ({ cls := "TurnEstimator", name := "inRange", desc := "(III)Z" } : Jvm.MethodName)) ∈ lw_all := lw_g (lw_at lw_m2 42 rfl) rfl
theorem q332 : (Jvm.Cond.code ({ cls := "TurnEstimator", name := "inRange", desc := "(III)Z" } : Jvm.MethodName) prog_1_method_1_code (3 : Nat) (Option.some Jvm.ClassFile.FieldType.boolean)) ∈ lw_all := lw_g (lw_at lw_m2 43 rfl) rfl
theorem q333 : (Jvm.Cond.methodLink "TurnEstimator" (63 : Nat) ({ cls := "TurnEstimator", name := "require", desc := "(Z)V" } : Jvm.MethodName)) ∈ lw_all := lw_g (lw_at lw_m2 44 rfl) rfl
theorem q334 : (Jvm.Cond.static ({ cls := "TurnEstimator", name := "require", desc := "(Z)V" } : Jvm.MethodName)) ∈ lw_all := lw_g (lw_at lw_m2 45 rfl) rfl
theorem q335 : (Jvm.Cond.code ({ cls := "TurnEstimator", name := "require", desc := "(Z)V" } : Jvm.MethodName) prog_1_method_2_code (1 : Nat) (Option.none : Option Jvm.ClassFile.FieldType)) ∈ lw_all := lw_g (lw_at lw_m2 46 rfl) rfl
theorem q336 : (Jvm.Cond.classLink "TurnEstimator" (1 : Nat) "java/lang/IllegalArgumentException") ∈ lw_all := lw_g (lw_at lw_m2 47 rfl) rfl
theorem q379 : (Jvm.Cond.methodLink "TurnEstimator" (3 : Nat) ({ cls := "java/lang/IllegalArgumentException", name := "<init>", desc := "()V" } : Jvm.MethodName)) ∈ lw_all := lw_g (lw_at lw_m2 90 rfl) rfl
theorem q439 : (Jvm.Cond.instanceMethod ({ cls := "TurnEstimator", name := "setInflow", desc := "(II)I" } : Jvm.MethodName)) ∈ lw_all := lw_g (lw_at lw_m2 150 rfl) rfl
theorem q440 : (Jvm.Cond.selects "TurnEstimator" ({ cls := "TurnEstimator", name := "setInflow", desc := "(II)I" } : Jvm.MethodName) ({ cls := "TurnEstimator", name := "setInflow", desc := "(II)I" } : Jvm.MethodName)) ∈ lw_all := lw_g (lw_at lw_m2 151 rfl) rfl
theorem q441 : (Jvm.Cond.code ({ cls := "TurnEstimator", name := "setInflow", desc := "(II)I" } : Jvm.MethodName) prog_1_method_12_code (3 : Nat) (Option.some Jvm.ClassFile.FieldType.int)) ∈ lw_all := lw_g (lw_at lw_m2 152 rfl) rfl
theorem q442 : (Jvm.Cond.methodLink "TurnEstimator" (67 : Nat) ({ cls := "TurnEstimator", name := "setCount", desc := "([III)I" } : Jvm.MethodName)) ∈ lw_all := lw_g (lw_at lw_m2 153 rfl) rfl
theorem q443 : (Jvm.Cond.privateMethod ({ cls := "TurnEstimator", name := "setCount", desc := "([III)I" } : Jvm.MethodName)) ∈ lw_tbl := lw_at lw_m2 154 rfl
theorem q444 : (Jvm.Cond.instanceMethod ({ cls := "TurnEstimator", name := "setCount", desc := "([III)I" } : Jvm.MethodName)) ∈ lw_all := lw_g (lw_at lw_m2 155 rfl) rfl
theorem q445 : (Jvm.Cond.code ({ cls := "TurnEstimator", name := "setCount", desc := "([III)I" } : Jvm.MethodName) prog_1_method_11_code (5 : Nat) (Option.some Jvm.ClassFile.FieldType.int)) ∈ lw_all := lw_g (lw_at lw_m2 156 rfl) rfl
theorem q446 : (Jvm.Cond.methodLink "TurnEstimator" (20 : Nat) ({ cls := "TurnEstimator", name := "requireArm", desc := "(I)V" } : Jvm.MethodName)) ∈ lw_all := lw_g (lw_at lw_m2 157 rfl) rfl
theorem q447 : (Jvm.Cond.privateMethod ({ cls := "TurnEstimator", name := "requireArm", desc := "(I)V" } : Jvm.MethodName)) ∈ lw_tbl := lw_at lw_m2 158 rfl
theorem q448 : (Jvm.Cond.instanceMethod ({ cls := "TurnEstimator", name := "requireArm", desc := "(I)V" } : Jvm.MethodName)) ∈ lw_all := lw_g (lw_at lw_m2 159 rfl) rfl
theorem q449 : (Jvm.Cond.code ({ cls := "TurnEstimator", name := "requireArm", desc := "(I)V" } : Jvm.MethodName) prog_1_method_4_code (2 : Nat) (Option.none : Option Jvm.ClassFile.FieldType)) ∈ lw_all := lw_g (lw_at lw_m2 160 rfl) rfl
theorem q450 : (Jvm.Cond.classLink "TurnEstimator" (17 : Nat) "java/lang/IndexOutOfBoundsException") ∈ lw_all := lw_g (lw_at lw_m2 161 rfl) rfl
theorem q459 : (Jvm.Cond.methodLink "TurnEstimator" (19 : Nat) ({ cls := "java/lang/IndexOutOfBoundsException", name := "<init>", desc := "()V" } : Jvm.MethodName)) ∈ lw_all := lw_g (lw_at lw_m2 170 rfl) rfl
theorem q469 : (Jvm.Cond.instanceMethod ({ cls := "TurnEstimator", name := "setOutflow", desc := "(II)I" } : Jvm.MethodName)) ∈ lw_all := lw_g (lw_at lw_m2 180 rfl) rfl
theorem q470 : (Jvm.Cond.selects "TurnEstimator" ({ cls := "TurnEstimator", name := "setOutflow", desc := "(II)I" } : Jvm.MethodName) ({ cls := "TurnEstimator", name := "setOutflow", desc := "(II)I" } : Jvm.MethodName)) ∈ lw_all := lw_g (lw_at lw_m2 181 rfl) rfl
theorem q471 : (Jvm.Cond.code ({ cls := "TurnEstimator", name := "setOutflow", desc := "(II)I" } : Jvm.MethodName) prog_1_method_13_code (3 : Nat) (Option.some Jvm.ClassFile.FieldType.int)) ∈ lw_all := lw_g (lw_at lw_m2 182 rfl) rfl
theorem q476 : (Jvm.Cond.instanceMethod ({ cls := "TurnEstimator", name := "setWeight", desc := "(III)I" } : Jvm.MethodName)) ∈ lw_all := lw_g (lw_at lw_m2 187 rfl) rfl
theorem q477 : (Jvm.Cond.selects "TurnEstimator" ({ cls := "TurnEstimator", name := "setWeight", desc := "(III)I" } : Jvm.MethodName) ({ cls := "TurnEstimator", name := "setWeight", desc := "(III)I" } : Jvm.MethodName)) ∈ lw_all := lw_g (lw_at lw_m2 188 rfl) rfl
theorem q478 : (Jvm.Cond.code ({ cls := "TurnEstimator", name := "setWeight", desc := "(III)I" } : Jvm.MethodName) prog_1_method_14_code (5 : Nat) (Option.some Jvm.ClassFile.FieldType.int)) ∈ lw_all := lw_g (lw_at lw_m2 189 rfl) rfl
theorem q479 : (Jvm.Cond.methodLink "TurnEstimator" (71 : Nat) ({ cls := "TurnEstimator", name := "requireTurn", desc := "(II)V" } : Jvm.MethodName)) ∈ lw_all := lw_g (lw_at lw_m2 190 rfl) rfl
theorem q480 : (Jvm.Cond.privateMethod ({ cls := "TurnEstimator", name := "requireTurn", desc := "(II)V" } : Jvm.MethodName)) ∈ lw_tbl := lw_at lw_m2 191 rfl
theorem q481 : (Jvm.Cond.instanceMethod ({ cls := "TurnEstimator", name := "requireTurn", desc := "(II)V" } : Jvm.MethodName)) ∈ lw_all := lw_g (lw_at lw_m2 192 rfl) rfl
theorem q482 : (Jvm.Cond.code ({ cls := "TurnEstimator", name := "requireTurn", desc := "(II)V" } : Jvm.MethodName) prog_1_method_5_code (3 : Nat) (Option.none : Option Jvm.ClassFile.FieldType)) ∈ lw_all := lw_g (lw_at lw_m2 193 rfl) rfl
theorem q488 : (Jvm.Cond.instanceMethod ({ cls := "TurnEstimator", name := "scale", desc := "(I)I" } : Jvm.MethodName)) ∈ lw_all := lw_g (lw_at lw_m2 199 rfl) rfl
theorem q489 : (Jvm.Cond.selects "TurnEstimator" ({ cls := "TurnEstimator", name := "scale", desc := "(I)I" } : Jvm.MethodName) ({ cls := "TurnEstimator", name := "scale", desc := "(I)I" } : Jvm.MethodName)) ∈ lw_all := lw_g (lw_at lw_m2 200 rfl) rfl
theorem q490 : (Jvm.Cond.code ({ cls := "TurnEstimator", name := "scale", desc := "(I)I" } : Jvm.MethodName) prog_1_method_19_code (2 : Nat) (Option.some Jvm.ClassFile.FieldType.int)) ∈ lw_all := lw_g (lw_at lw_m2 201 rfl) rfl
theorem q491 : (Jvm.Cond.methodLink "TurnEstimator" (79 : Nat) ({ cls := "TurnEstimator", name := "fits", desc := "([II)Z" } : Jvm.MethodName)) ∈ lw_all := lw_g (lw_at lw_m2 202 rfl) rfl
theorem q492 : (Jvm.Cond.static ({ cls := "TurnEstimator", name := "fits", desc := "([II)Z" } : Jvm.MethodName)) ∈ lw_all := lw_g (lw_at lw_m2 203 rfl) rfl
theorem q493 : (Jvm.Cond.code ({ cls := "TurnEstimator", name := "fits", desc := "([II)Z" } : Jvm.MethodName) prog_1_method_16_code (7 : Nat) (Option.some Jvm.ClassFile.FieldType.boolean)) ∈ lw_all := lw_g (lw_at lw_m2 204 rfl) rfl
theorem q494 : (Jvm.Cond.methodLink "TurnEstimator" (75 : Nat) ({ cls := "TurnEstimator", name := "scaled", desc := "(II)I" } : Jvm.MethodName)) ∈ lw_all := lw_g (lw_at lw_m2 205 rfl) rfl
theorem q495 : (Jvm.Cond.static ({ cls := "TurnEstimator", name := "scaled", desc := "(II)I" } : Jvm.MethodName)) ∈ lw_all := lw_g (lw_at lw_m2 206 rfl) rfl
theorem q496 : (Jvm.Cond.code ({ cls := "TurnEstimator", name := "scaled", desc := "(II)I" } : Jvm.MethodName) prog_1_method_15_code (2 : Nat) (Option.some Jvm.ClassFile.FieldType.int)) ∈ lw_all := lw_g (lw_at lw_m2 207 rfl) rfl
theorem q497 : (Jvm.Cond.classLink "TurnEstimator" (83 : Nat) "java/lang/IllegalStateException") ∈ lw_all := lw_g (lw_at lw_m2 208 rfl) rfl
theorem q506 : (Jvm.Cond.methodLink "TurnEstimator" (85 : Nat) ({ cls := "java/lang/IllegalStateException", name := "<init>", desc := "()V" } : Jvm.MethodName)) ∈ lw_all := lw_g (lw_at lw_m2 217 rfl) rfl
theorem q512 : (Jvm.Cond.methodLink "TurnEstimator" (86 : Nat) ({ cls := "TurnEstimator", name := "scaleAll", desc := "([II)V" } : Jvm.MethodName)) ∈ lw_all := lw_g (lw_at lw_m2 223 rfl) rfl
theorem q513 : (Jvm.Cond.static ({ cls := "TurnEstimator", name := "scaleAll", desc := "([II)V" } : Jvm.MethodName)) ∈ lw_all := lw_g (lw_at lw_m2 224 rfl) rfl
theorem q514 : (Jvm.Cond.code ({ cls := "TurnEstimator", name := "scaleAll", desc := "([II)V" } : Jvm.MethodName) prog_1_method_17_code (3 : Nat) (Option.none : Option Jvm.ClassFile.FieldType)) ∈ lw_all := lw_g (lw_at lw_m2 225 rfl) rfl
theorem q519 : (Jvm.Cond.instanceMethod ({ cls := "TurnEstimator", name := "excess", desc := "(I)I" } : Jvm.MethodName)) ∈ lw_all := lw_g (lw_at lw_m2 230 rfl) rfl
theorem q520 : (Jvm.Cond.selects "TurnEstimator" ({ cls := "TurnEstimator", name := "excess", desc := "(I)I" } : Jvm.MethodName) ({ cls := "TurnEstimator", name := "excess", desc := "(I)I" } : Jvm.MethodName)) ∈ lw_all := lw_g (lw_at lw_m2 231 rfl) rfl
theorem q521 : (Jvm.Cond.code ({ cls := "TurnEstimator", name := "excess", desc := "(I)I" } : Jvm.MethodName) prog_1_method_27_code (2 : Nat) (Option.some Jvm.ClassFile.FieldType.int)) ∈ lw_all := lw_g (lw_at lw_m2 232 rfl) rfl
theorem q526 : (Jvm.Cond.instanceMethod ({ cls := "TurnEstimator", name := "iterate", desc := "(I)I" } : Jvm.MethodName)) ∈ lw_all := lw_g (lw_at lw_m2 237 rfl) rfl
theorem q527 : (Jvm.Cond.selects "TurnEstimator" ({ cls := "TurnEstimator", name := "iterate", desc := "(I)I" } : Jvm.MethodName) ({ cls := "TurnEstimator", name := "iterate", desc := "(I)I" } : Jvm.MethodName)) ∈ lw_all := lw_g (lw_at lw_m2 238 rfl) rfl
theorem q528 : (Jvm.Cond.code ({ cls := "TurnEstimator", name := "iterate", desc := "(I)I" } : Jvm.MethodName) prog_1_method_29_code (3 : Nat) (Option.some Jvm.ClassFile.FieldType.int)) ∈ lw_all := lw_g (lw_at lw_m2 239 rfl) rfl
theorem q529 : (Jvm.Cond.methodLink "TurnEstimator" (119 : Nat) ({ cls := "TurnEstimator", name := "round", desc := "()V" } : Jvm.MethodName)) ∈ lw_all := lw_g (lw_at lw_m3 0 rfl) rfl
theorem q530 : (Jvm.Cond.privateMethod ({ cls := "TurnEstimator", name := "round", desc := "()V" } : Jvm.MethodName)) ∈ lw_tbl := lw_at lw_m3 1 rfl
theorem q531 : (Jvm.Cond.instanceMethod ({ cls := "TurnEstimator", name := "round", desc := "()V" } : Jvm.MethodName)) ∈ lw_all := lw_g (lw_at lw_m3 2 rfl) rfl
theorem q532 : (Jvm.Cond.code ({ cls := "TurnEstimator", name := "round", desc := "()V" } : Jvm.MethodName) prog_1_method_28_code (2 : Nat) (Option.none : Option Jvm.ClassFile.FieldType)) ∈ lw_all := lw_g (lw_at lw_m3 3 rfl) rfl
theorem q533 : (Jvm.Cond.interfaceEntry "TurnEstimator" (113 : Nat)) ∈ lw_tbl := lw_at lw_m3 4 rfl
theorem q534 : (Jvm.Cond.methodLink "TurnEstimator" (113 : Nat) ({ cls := "TurnEstimator$Step", name := "apply", desc := "(LTurnEstimator;I)V" } : Jvm.MethodName)) ∈ lw_all := lw_g (lw_at lw_m3 5 rfl) rfl
theorem q580 : (Jvm.Cond.instanceMethod ({ cls := "TurnEstimator", name := "fit", desc := "(II)I" } : Jvm.MethodName)) ∈ lw_all := lw_g (lw_at lw_m3 51 rfl) rfl
theorem q581 : (Jvm.Cond.selects "TurnEstimator" ({ cls := "TurnEstimator", name := "fit", desc := "(II)I" } : Jvm.MethodName) ({ cls := "TurnEstimator", name := "fit", desc := "(II)I" } : Jvm.MethodName)) ∈ lw_all := lw_g (lw_at lw_m3 52 rfl) rfl
theorem q582 : (Jvm.Cond.code ({ cls := "TurnEstimator", name := "fit", desc := "(II)I" } : Jvm.MethodName) prog_1_method_32_code (6 : Nat) (Option.some Jvm.ClassFile.FieldType.int)) ∈ lw_all := lw_g (lw_at lw_m3 53 rfl) rfl
theorem q583 : (Jvm.Cond.constant "TurnEstimator" (139 : Nat) (100000 : Int32)) ∈ lw_all := lw_g (lw_at lw_m3 54 rfl) rfl
theorem q588 : (Jvm.Cond.instanceMethod ({ cls := "TurnEstimator", name := "estimate", desc := "(II)D" } : Jvm.MethodName)) ∈ lw_all := lw_g (lw_at lw_m3 59 rfl) rfl
theorem q589 : (Jvm.Cond.selects "TurnEstimator" ({ cls := "TurnEstimator", name := "estimate", desc := "(II)D" } : Jvm.MethodName) ({ cls := "TurnEstimator", name := "estimate", desc := "(II)D" } : Jvm.MethodName)) ∈ lw_all := lw_g (lw_at lw_m3 60 rfl) rfl
theorem q590 : (Jvm.Cond.code ({ cls := "TurnEstimator", name := "estimate", desc := "(II)D" } : Jvm.MethodName) prog_1_method_35_code (3 : Nat) (Option.some Jvm.ClassFile.FieldType.double)) ∈ lw_all := lw_g (lw_at lw_m3 61 rfl) rfl
theorem q595 : (Jvm.Cond.instanceMethod ({ cls := "TurnEstimator", name := "sum", desc := "(IZ)D" } : Jvm.MethodName)) ∈ lw_all := lw_g (lw_at lw_m3 66 rfl) rfl
theorem q596 : (Jvm.Cond.selects "TurnEstimator" ({ cls := "TurnEstimator", name := "sum", desc := "(IZ)D" } : Jvm.MethodName) ({ cls := "TurnEstimator", name := "sum", desc := "(IZ)D" } : Jvm.MethodName)) ∈ lw_all := lw_g (lw_at lw_m3 67 rfl) rfl
theorem q597 : (Jvm.Cond.code ({ cls := "TurnEstimator", name := "sum", desc := "(IZ)D" } : Jvm.MethodName) prog_1_method_36_code (3 : Nat) (Option.some Jvm.ClassFile.FieldType.double)) ∈ lw_all := lw_g (lw_at lw_m3 68 rfl) rfl
theorem q602 : (Jvm.Cond.instanceMethod ({ cls := "TurnEstimator", name := "share", desc := "(II)D" } : Jvm.MethodName)) ∈ lw_all := lw_g (lw_at lw_m3 73 rfl) rfl
theorem q603 : (Jvm.Cond.selects "TurnEstimator" ({ cls := "TurnEstimator", name := "share", desc := "(II)D" } : Jvm.MethodName) ({ cls := "TurnEstimator", name := "share", desc := "(II)D" } : Jvm.MethodName)) ∈ lw_all := lw_g (lw_at lw_m3 74 rfl) rfl
theorem q604 : (Jvm.Cond.code ({ cls := "TurnEstimator", name := "share", desc := "(II)D" } : Jvm.MethodName) prog_1_method_38_code (5 : Nat) (Option.some Jvm.ClassFile.FieldType.double)) ∈ lw_all := lw_g (lw_at lw_m3 75 rfl) rfl
theorem q623 : (Jvm.Cond.instanceMethod ({ cls := "TurnEstimator", name := "crossRatio", desc := "(IIII)D" } : Jvm.MethodName)) ∈ lw_all := lw_g (lw_at lw_m3 94 rfl) rfl
theorem q624 : (Jvm.Cond.selects "TurnEstimator" ({ cls := "TurnEstimator", name := "crossRatio", desc := "(IIII)D" } : Jvm.MethodName) ({ cls := "TurnEstimator", name := "crossRatio", desc := "(IIII)D" } : Jvm.MethodName)) ∈ lw_all := lw_g (lw_at lw_m3 95 rfl) rfl
theorem q625 : (Jvm.Cond.code ({ cls := "TurnEstimator", name := "crossRatio", desc := "(IIII)D" } : Jvm.MethodName) prog_1_method_40_code (7 : Nat) (Option.some Jvm.ClassFile.FieldType.double)) ∈ lw_all := lw_g (lw_at lw_m3 96 rfl) rfl
theorem q626 : (Jvm.Cond.methodLink "TurnEstimator" (146 : Nat) ({ cls := "TurnEstimator", name := "product", desc := "(IIII)D" } : Jvm.MethodName)) ∈ lw_all := lw_g (lw_at lw_m3 97 rfl) rfl
theorem q627 : (Jvm.Cond.privateMethod ({ cls := "TurnEstimator", name := "product", desc := "(IIII)D" } : Jvm.MethodName)) ∈ lw_tbl := lw_at lw_m3 98 rfl
theorem q628 : (Jvm.Cond.instanceMethod ({ cls := "TurnEstimator", name := "product", desc := "(IIII)D" } : Jvm.MethodName)) ∈ lw_all := lw_g (lw_at lw_m3 99 rfl) rfl
theorem q629 : (Jvm.Cond.code ({ cls := "TurnEstimator", name := "product", desc := "(IIII)D" } : Jvm.MethodName) prog_1_method_39_code (5 : Nat) (Option.some Jvm.ClassFile.FieldType.double)) ∈ lw_all := lw_g (lw_at lw_m3 100 rfl) rfl
theorem q630 : (Jvm.Cond.classLink "TurnEstimator" (150 : Nat) "java/lang/ArithmeticException") ∈ lw_all := lw_g (lw_at lw_m3 101 rfl) rfl
theorem q631 : (Jvm.Cond.methodLink "TurnEstimator" (152 : Nat) ({ cls := "java/lang/ArithmeticException", name := "<init>", desc := "()V" } : Jvm.MethodName)) ∈ lw_all := lw_g (lw_at lw_m3 102 rfl) rfl
theorem q639 : (Jvm.Cond.instanceMethod ({ cls := "TurnEstimator", name := "rounded", desc := "(II)I" } : Jvm.MethodName)) ∈ lw_all := lw_g (lw_at lw_m3 110 rfl) rfl
theorem q640 : (Jvm.Cond.selects "TurnEstimator" ({ cls := "TurnEstimator", name := "rounded", desc := "(II)I" } : Jvm.MethodName) ({ cls := "TurnEstimator", name := "rounded", desc := "(II)I" } : Jvm.MethodName)) ∈ lw_all := lw_g (lw_at lw_m3 111 rfl) rfl
theorem q641 : (Jvm.Cond.code ({ cls := "TurnEstimator", name := "rounded", desc := "(II)I" } : Jvm.MethodName) prog_1_method_43_code (3 : Nat) (Option.some Jvm.ClassFile.FieldType.int)) ∈ lw_all := lw_g (lw_at lw_m3 112 rfl) rfl
theorem q646 : (Jvm.Cond.instanceMethod ({ cls := "TurnEstimator", name := "possible", desc := "(II)I" } : Jvm.MethodName)) ∈ lw_all := lw_g (lw_at lw_m3 117 rfl) rfl
theorem q647 : (Jvm.Cond.selects "TurnEstimator" ({ cls := "TurnEstimator", name := "possible", desc := "(II)I" } : Jvm.MethodName) ({ cls := "TurnEstimator", name := "possible", desc := "(II)I" } : Jvm.MethodName)) ∈ lw_all := lw_g (lw_at lw_m3 118 rfl) rfl
theorem q648 : (Jvm.Cond.code ({ cls := "TurnEstimator", name := "possible", desc := "(II)I" } : Jvm.MethodName) prog_1_method_46_code (3 : Nat) (Option.some Jvm.ClassFile.FieldType.int)) ∈ lw_all := lw_g (lw_at lw_m3 119 rfl) rfl
theorem in_X1 : ∀ w ∈ wsX10, w ∈ lw_all := lw_in wsX10 [119, 121, 123, 125, 127, 129, 131, 133, 135] (by decide +kernel) (by decide +kernel)
