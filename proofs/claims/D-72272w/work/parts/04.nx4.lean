/-! TurnEstimatorModel -/
set_option maxRecDepth 100000
def RX4 : String := "TurnEstimatorModel"
def TX4 : u_T := fun k => match k with
  | 0 => ("TurnEstimatorModel", "thrown", "I", false)
  | 1 => ("TurnEstimatorModel", "arms", "I", false)
  | 2 => ("TurnEstimatorModel", "inflow", "[I", true)
  | 3 => ("TurnEstimatorModel", "outflow", "[I", true)
  | 4 => ("TurnEstimatorModel", "weights", "[I", true)
  | 5 => ("TurnEstimatorModel", "estimates", "[D", true)
  | 6 => ("TurnEstimatorModel", "roundsDone", "I", false)
  | 7 => ("TurnEstimatorModel", "whole", "[I", true)
  | 8 => ("TurnEstimatorModel", "fraction", "[D", true)
  | 9 => ("TurnEstimatorModel", "table", "[I", true)
  | 10 => ("TurnEstimatorModel", "rowLeft", "[I", true)
  | 11 => ("TurnEstimatorModel", "columnLeft", "[I", true)
  | _ => ("TurnEstimatorModel", "h", "J", false)
def tyX4 : Nat → FieldType := fun k => match k with
  | 0 => .int
  | 1 => .int
  | 2 => .array .int
  | 3 => .array .int
  | 4 => .array .int
  | 5 => .array .double
  | 6 => .int
  | 7 => .array .int
  | 8 => .array .double
  | 9 => .array .int
  | 10 => .array .int
  | 11 => .array .int
  | _ => .long
abbrev wsX40 : List Cond := u_ws RX4 TX4 13
set_option maxRecDepth 100000 in
theorem nmX4 : ∀ a, a < 13 → ∀ b, b < 13 → a ≠ b → (TX4 a).2.1 ≠ (TX4 b).2.1 := by decide +kernel
set_option maxRecDepth 100000 in
theorem tyX4_ok : ∀ k, k < 13 → parseFieldDescriptor (TX4 k).2.2.1 = some (tyX4 k) := by decide +kernel
abbrev cX4_init : ByteArray := prog_11_method_1_code
def yX4_init : MethodName := ⟨RX4, "<init>", "()V"⟩
def dkwX4_init_3 : List UInt8 := [181, 0, 36, 42, 16, 6, 188, 10, 181, 0, 39, 42, 182, 0, 42, 177]
abbrev dktX4_init_3 : List UInt8 := dkwX4_init_3 ++ []
def dkwX4_init_2 : List UInt8 := [181, 0, 27, 42, 16, 6, 188, 7, 181, 0, 30, 42, 16, 36, 188, 10, 181, 0, 33, 42, 16, 6, 188, 10]
abbrev dktX4_init_2 : List UInt8 := dkwX4_init_2 ++ dktX4_init_3
def dkwX4_init_1 : List UInt8 := [181, 0, 17, 42, 16, 36, 188, 10, 181, 0, 20, 42, 16, 36, 188, 7, 181, 0, 23, 42, 16, 36, 188, 10]
abbrev dktX4_init_1 : List UInt8 := dkwX4_init_1 ++ dktX4_init_2
def dkwX4_init_0 : List UInt8 := [42, 183, 0, 1, 42, 7, 181, 0, 7, 42, 16, 6, 188, 10, 181, 0, 13, 42, 16, 6, 188, 10]
abbrev dktX4_init_0 : List UInt8 := dkwX4_init_0 ++ dktX4_init_1
theorem dksX4_init_0 : cX4_init.data.toList.drop 0 = dktX4_init_0 := by decide +kernel
theorem dksX4_init_1 : cX4_init.data.toList.drop 22 = dktX4_init_1 := dk_seg dksX4_init_0 22 rfl rfl
theorem dksX4_init_2 : cX4_init.data.toList.drop 46 = dktX4_init_2 := dk_seg dksX4_init_1 24 rfl rfl
theorem dksX4_init_3 : cX4_init.data.toList.drop 70 = dktX4_init_3 := dk_seg dksX4_init_2 24 rfl rfl
theorem dX4_init_0 : decode cX4_init 0 = .ok (.aload_n 0, 1) := dk_42 (dk_at dksX4_init_0 0 rfl rfl)
theorem dX4_init_1 : decode cX4_init 1 = .ok (.invokespecial 1, 3) := dk_183 0 1 (dk_at dksX4_init_0 1 rfl rfl)
theorem dX4_init_4 : decode cX4_init 4 = .ok (.aload_n 0, 1) := dk_42 (dk_at dksX4_init_0 4 rfl rfl)
theorem dX4_init_5 : decode cX4_init 5 = .ok (.iconst 4, 1) := dk_7 (dk_at dksX4_init_0 5 rfl rfl)
theorem dX4_init_6 : decode cX4_init 6 = .ok (.putfield 7, 3) := dk_181 0 7 (dk_at dksX4_init_0 6 rfl rfl)
theorem dX4_init_9 : decode cX4_init 9 = .ok (.aload_n 0, 1) := dk_42 (dk_at dksX4_init_0 9 rfl rfl)
theorem dX4_init_10 : decode cX4_init 10 = .ok (.bipush 6, 2) := dk_16 6 (dk_at dksX4_init_0 10 rfl rfl)
theorem dX4_init_12 : decode cX4_init 12 = .ok (.newarray .int, 2) := dk_188_10 (dk_at dksX4_init_0 12 rfl rfl)
theorem dX4_init_14 : decode cX4_init 14 = .ok (.putfield 13, 3) := dk_181 0 13 (dk_at dksX4_init_0 14 rfl rfl)
theorem dX4_init_17 : decode cX4_init 17 = .ok (.aload_n 0, 1) := dk_42 (dk_at dksX4_init_0 17 rfl rfl)
theorem dX4_init_18 : decode cX4_init 18 = .ok (.bipush 6, 2) := dk_16 6 (dk_at dksX4_init_0 18 rfl rfl)
theorem dX4_init_20 : decode cX4_init 20 = .ok (.newarray .int, 2) := dk_188_10 (dk_at dksX4_init_0 20 rfl rfl)
theorem dX4_init_22 : decode cX4_init 22 = .ok (.putfield 17, 3) := dk_181 0 17 (dk_at dksX4_init_1 0 rfl rfl)
theorem dX4_init_25 : decode cX4_init 25 = .ok (.aload_n 0, 1) := dk_42 (dk_at dksX4_init_1 3 rfl rfl)
theorem dX4_init_26 : decode cX4_init 26 = .ok (.bipush 36, 2) := dk_16 36 (dk_at dksX4_init_1 4 rfl rfl)
theorem dX4_init_28 : decode cX4_init 28 = .ok (.newarray .int, 2) := dk_188_10 (dk_at dksX4_init_1 6 rfl rfl)
theorem dX4_init_30 : decode cX4_init 30 = .ok (.putfield 20, 3) := dk_181 0 20 (dk_at dksX4_init_1 8 rfl rfl)
theorem dX4_init_33 : decode cX4_init 33 = .ok (.aload_n 0, 1) := dk_42 (dk_at dksX4_init_1 11 rfl rfl)
theorem dX4_init_34 : decode cX4_init 34 = .ok (.bipush 36, 2) := dk_16 36 (dk_at dksX4_init_1 12 rfl rfl)
theorem dX4_init_36 : decode cX4_init 36 = .ok (.newarray .double, 2) := dk_188_7 (dk_at dksX4_init_1 14 rfl rfl)
theorem dX4_init_38 : decode cX4_init 38 = .ok (.putfield 23, 3) := dk_181 0 23 (dk_at dksX4_init_1 16 rfl rfl)
theorem dX4_init_41 : decode cX4_init 41 = .ok (.aload_n 0, 1) := dk_42 (dk_at dksX4_init_1 19 rfl rfl)
theorem dX4_init_42 : decode cX4_init 42 = .ok (.bipush 36, 2) := dk_16 36 (dk_at dksX4_init_1 20 rfl rfl)
theorem dX4_init_44 : decode cX4_init 44 = .ok (.newarray .int, 2) := dk_188_10 (dk_at dksX4_init_1 22 rfl rfl)
theorem dX4_init_46 : decode cX4_init 46 = .ok (.putfield 27, 3) := dk_181 0 27 (dk_at dksX4_init_2 0 rfl rfl)
theorem dX4_init_49 : decode cX4_init 49 = .ok (.aload_n 0, 1) := dk_42 (dk_at dksX4_init_2 3 rfl rfl)
theorem dX4_init_50 : decode cX4_init 50 = .ok (.bipush 6, 2) := dk_16 6 (dk_at dksX4_init_2 4 rfl rfl)
theorem dX4_init_52 : decode cX4_init 52 = .ok (.newarray .double, 2) := dk_188_7 (dk_at dksX4_init_2 6 rfl rfl)
theorem dX4_init_54 : decode cX4_init 54 = .ok (.putfield 30, 3) := dk_181 0 30 (dk_at dksX4_init_2 8 rfl rfl)
theorem dX4_init_57 : decode cX4_init 57 = .ok (.aload_n 0, 1) := dk_42 (dk_at dksX4_init_2 11 rfl rfl)
theorem dX4_init_58 : decode cX4_init 58 = .ok (.bipush 36, 2) := dk_16 36 (dk_at dksX4_init_2 12 rfl rfl)
theorem dX4_init_60 : decode cX4_init 60 = .ok (.newarray .int, 2) := dk_188_10 (dk_at dksX4_init_2 14 rfl rfl)
theorem dX4_init_62 : decode cX4_init 62 = .ok (.putfield 33, 3) := dk_181 0 33 (dk_at dksX4_init_2 16 rfl rfl)
theorem dX4_init_65 : decode cX4_init 65 = .ok (.aload_n 0, 1) := dk_42 (dk_at dksX4_init_2 19 rfl rfl)
theorem dX4_init_66 : decode cX4_init 66 = .ok (.bipush 6, 2) := dk_16 6 (dk_at dksX4_init_2 20 rfl rfl)
theorem dX4_init_68 : decode cX4_init 68 = .ok (.newarray .int, 2) := dk_188_10 (dk_at dksX4_init_2 22 rfl rfl)
theorem dX4_init_70 : decode cX4_init 70 = .ok (.putfield 36, 3) := dk_181 0 36 (dk_at dksX4_init_3 0 rfl rfl)
theorem dX4_init_73 : decode cX4_init 73 = .ok (.aload_n 0, 1) := dk_42 (dk_at dksX4_init_3 3 rfl rfl)
theorem dX4_init_74 : decode cX4_init 74 = .ok (.bipush 6, 2) := dk_16 6 (dk_at dksX4_init_3 4 rfl rfl)
theorem dX4_init_76 : decode cX4_init 76 = .ok (.newarray .int, 2) := dk_188_10 (dk_at dksX4_init_3 6 rfl rfl)
theorem dX4_init_78 : decode cX4_init 78 = .ok (.putfield 39, 3) := dk_181 0 39 (dk_at dksX4_init_3 8 rfl rfl)
theorem dX4_init_81 : decode cX4_init 81 = .ok (.aload_n 0, 1) := dk_42 (dk_at dksX4_init_3 11 rfl rfl)
theorem dX4_init_82 : decode cX4_init 82 = .ok (.invokevirtual 42, 3) := dk_182 0 42 (dk_at dksX4_init_3 12 rfl rfl)
theorem dX4_init_85 : decode cX4_init 85 = .ok (.return_, 1) := dk_177 (dk_at dksX4_init_3 15 rfl rfl)
abbrev cX4_begin : ByteArray := prog_11_method_6_code
def yX4_begin : MethodName := ⟨RX4, "begin", "()V"⟩
def dkwX4_begin_2 : List UInt8 := [27, 3, 79, 42, 180, 0, 17, 27, 3, 79, 132, 1, 1, 167, 255, 233, 42, 182, 0, 55, 177]
abbrev dktX4_begin_2 : List UInt8 := dkwX4_begin_2 ++ []
def dkwX4_begin_1 : List UInt8 := [3, 167, 0, 4, 4, 79, 132, 1, 1, 167, 255, 225, 3, 60, 27, 16, 6, 162, 0, 23, 42, 180, 0, 13]
abbrev dktX4_begin_1 : List UInt8 := dkwX4_begin_1 ++ dktX4_begin_2
def dkwX4_begin_0 : List UInt8 := [3, 60, 27, 16, 36, 162, 0, 31, 42, 180, 0, 20, 27, 27, 16, 6, 108, 27, 16, 6, 112, 160, 0, 7]
abbrev dktX4_begin_0 : List UInt8 := dkwX4_begin_0 ++ dktX4_begin_1
theorem dksX4_begin_0 : cX4_begin.data.toList.drop 0 = dktX4_begin_0 := by decide +kernel
theorem dksX4_begin_1 : cX4_begin.data.toList.drop 24 = dktX4_begin_1 := dk_seg dksX4_begin_0 24 rfl rfl
theorem dksX4_begin_2 : cX4_begin.data.toList.drop 48 = dktX4_begin_2 := dk_seg dksX4_begin_1 24 rfl rfl
theorem dX4_begin_0 : decode cX4_begin 0 = .ok (.iconst 0, 1) := dk_3 (dk_at dksX4_begin_0 0 rfl rfl)
theorem dX4_begin_1 : decode cX4_begin 1 = .ok (.istore_n 1, 1) := dk_60 (dk_at dksX4_begin_0 1 rfl rfl)
theorem dX4_begin_2 : decode cX4_begin 2 = .ok (.iload_n 1, 1) := dk_27 (dk_at dksX4_begin_0 2 rfl rfl)
theorem dX4_begin_3 : decode cX4_begin 3 = .ok (.bipush 36, 2) := dk_16 36 (dk_at dksX4_begin_0 3 rfl rfl)
theorem dX4_begin_5 : decode cX4_begin 5 = .ok (.if_icmp .ge 31, 3) := dk_162 0 31 (dk_at dksX4_begin_0 5 rfl rfl)
theorem dX4_begin_8 : decode cX4_begin 8 = .ok (.aload_n 0, 1) := dk_42 (dk_at dksX4_begin_0 8 rfl rfl)
theorem dX4_begin_9 : decode cX4_begin 9 = .ok (.getfield 20, 3) := dk_180 0 20 (dk_at dksX4_begin_0 9 rfl rfl)
theorem dX4_begin_12 : decode cX4_begin 12 = .ok (.iload_n 1, 1) := dk_27 (dk_at dksX4_begin_0 12 rfl rfl)
theorem dX4_begin_13 : decode cX4_begin 13 = .ok (.iload_n 1, 1) := dk_27 (dk_at dksX4_begin_0 13 rfl rfl)
theorem dX4_begin_14 : decode cX4_begin 14 = .ok (.bipush 6, 2) := dk_16 6 (dk_at dksX4_begin_0 14 rfl rfl)
theorem dX4_begin_16 : decode cX4_begin 16 = .ok (.idiv, 1) := dk_108 (dk_at dksX4_begin_0 16 rfl rfl)
theorem dX4_begin_17 : decode cX4_begin 17 = .ok (.iload_n 1, 1) := dk_27 (dk_at dksX4_begin_0 17 rfl rfl)
theorem dX4_begin_18 : decode cX4_begin 18 = .ok (.bipush 6, 2) := dk_16 6 (dk_at dksX4_begin_0 18 rfl rfl)
theorem dX4_begin_20 : decode cX4_begin 20 = .ok (.irem, 1) := dk_112 (dk_at dksX4_begin_0 20 rfl rfl)
theorem dX4_begin_21 : decode cX4_begin 21 = .ok (.if_icmp .ne 7, 3) := dk_160 0 7 (dk_at dksX4_begin_0 21 rfl rfl)
theorem dX4_begin_24 : decode cX4_begin 24 = .ok (.iconst 0, 1) := dk_3 (dk_at dksX4_begin_1 0 rfl rfl)
theorem dX4_begin_25 : decode cX4_begin 25 = .ok (.goto 4, 3) := dk_167 0 4 (dk_at dksX4_begin_1 1 rfl rfl)
theorem dX4_begin_28 : decode cX4_begin 28 = .ok (.iconst 1, 1) := dk_4 (dk_at dksX4_begin_1 4 rfl rfl)
theorem dX4_begin_29 : decode cX4_begin 29 = .ok (.iastore, 1) := dk_79 (dk_at dksX4_begin_1 5 rfl rfl)
theorem dX4_begin_30 : decode cX4_begin 30 = .ok (.iinc 1 1, 3) := dk_132 1 1 (dk_at dksX4_begin_1 6 rfl rfl)
theorem dX4_begin_33 : decode cX4_begin 33 = .ok (.goto (-31), 3) := dk_167 255 225 (dk_at dksX4_begin_1 9 rfl rfl)
theorem dX4_begin_36 : decode cX4_begin 36 = .ok (.iconst 0, 1) := dk_3 (dk_at dksX4_begin_1 12 rfl rfl)
theorem dX4_begin_37 : decode cX4_begin 37 = .ok (.istore_n 1, 1) := dk_60 (dk_at dksX4_begin_1 13 rfl rfl)
theorem dX4_begin_38 : decode cX4_begin 38 = .ok (.iload_n 1, 1) := dk_27 (dk_at dksX4_begin_1 14 rfl rfl)
theorem dX4_begin_39 : decode cX4_begin 39 = .ok (.bipush 6, 2) := dk_16 6 (dk_at dksX4_begin_1 15 rfl rfl)
theorem dX4_begin_41 : decode cX4_begin 41 = .ok (.if_icmp .ge 23, 3) := dk_162 0 23 (dk_at dksX4_begin_1 17 rfl rfl)
theorem dX4_begin_44 : decode cX4_begin 44 = .ok (.aload_n 0, 1) := dk_42 (dk_at dksX4_begin_1 20 rfl rfl)
theorem dX4_begin_45 : decode cX4_begin 45 = .ok (.getfield 13, 3) := dk_180 0 13 (dk_at dksX4_begin_1 21 rfl rfl)
theorem dX4_begin_48 : decode cX4_begin 48 = .ok (.iload_n 1, 1) := dk_27 (dk_at dksX4_begin_2 0 rfl rfl)
theorem dX4_begin_49 : decode cX4_begin 49 = .ok (.iconst 0, 1) := dk_3 (dk_at dksX4_begin_2 1 rfl rfl)
theorem dX4_begin_50 : decode cX4_begin 50 = .ok (.iastore, 1) := dk_79 (dk_at dksX4_begin_2 2 rfl rfl)
theorem dX4_begin_51 : decode cX4_begin 51 = .ok (.aload_n 0, 1) := dk_42 (dk_at dksX4_begin_2 3 rfl rfl)
theorem dX4_begin_52 : decode cX4_begin 52 = .ok (.getfield 17, 3) := dk_180 0 17 (dk_at dksX4_begin_2 4 rfl rfl)
theorem dX4_begin_55 : decode cX4_begin 55 = .ok (.iload_n 1, 1) := dk_27 (dk_at dksX4_begin_2 7 rfl rfl)
theorem dX4_begin_56 : decode cX4_begin 56 = .ok (.iconst 0, 1) := dk_3 (dk_at dksX4_begin_2 8 rfl rfl)
theorem dX4_begin_57 : decode cX4_begin 57 = .ok (.iastore, 1) := dk_79 (dk_at dksX4_begin_2 9 rfl rfl)
theorem dX4_begin_58 : decode cX4_begin 58 = .ok (.iinc 1 1, 3) := dk_132 1 1 (dk_at dksX4_begin_2 10 rfl rfl)
theorem dX4_begin_61 : decode cX4_begin 61 = .ok (.goto (-23), 3) := dk_167 255 233 (dk_at dksX4_begin_2 13 rfl rfl)
theorem dX4_begin_64 : decode cX4_begin 64 = .ok (.aload_n 0, 1) := dk_42 (dk_at dksX4_begin_2 16 rfl rfl)
theorem dX4_begin_65 : decode cX4_begin 65 = .ok (.invokevirtual 55, 3) := dk_182 0 55 (dk_at dksX4_begin_2 17 rfl rfl)
theorem dX4_begin_68 : decode cX4_begin 68 = .ok (.return_, 1) := dk_177 (dk_at dksX4_begin_2 20 rfl rfl)
abbrev cX4_layWeights : ByteArray := prog_11_method_5_code
def yX4_layWeights : MethodName := ⟨RX4, "layWeights", "()V"⟩
def dkwX4_layWeights_1 : List UInt8 := [167, 255, 234, 42, 3, 181, 0, 52, 177]
abbrev dktX4_layWeights_1 : List UInt8 := dkwX4_layWeights_1 ++ []
def dkwX4_layWeights_0 : List UInt8 := [3, 60, 27, 16, 36, 162, 0, 22, 42, 180, 0, 23, 27, 42, 180, 0, 20, 27, 46, 135, 82, 132, 1, 1]
abbrev dktX4_layWeights_0 : List UInt8 := dkwX4_layWeights_0 ++ dktX4_layWeights_1
theorem dksX4_layWeights_0 : cX4_layWeights.data.toList.drop 0 = dktX4_layWeights_0 := by decide +kernel
theorem dksX4_layWeights_1 : cX4_layWeights.data.toList.drop 24 = dktX4_layWeights_1 := dk_seg dksX4_layWeights_0 24 rfl rfl
theorem dX4_layWeights_0 : decode cX4_layWeights 0 = .ok (.iconst 0, 1) := dk_3 (dk_at dksX4_layWeights_0 0 rfl rfl)
theorem dX4_layWeights_1 : decode cX4_layWeights 1 = .ok (.istore_n 1, 1) := dk_60 (dk_at dksX4_layWeights_0 1 rfl rfl)
theorem dX4_layWeights_2 : decode cX4_layWeights 2 = .ok (.iload_n 1, 1) := dk_27 (dk_at dksX4_layWeights_0 2 rfl rfl)
theorem dX4_layWeights_3 : decode cX4_layWeights 3 = .ok (.bipush 36, 2) := dk_16 36 (dk_at dksX4_layWeights_0 3 rfl rfl)
theorem dX4_layWeights_5 : decode cX4_layWeights 5 = .ok (.if_icmp .ge 22, 3) := dk_162 0 22 (dk_at dksX4_layWeights_0 5 rfl rfl)
theorem dX4_layWeights_8 : decode cX4_layWeights 8 = .ok (.aload_n 0, 1) := dk_42 (dk_at dksX4_layWeights_0 8 rfl rfl)
theorem dX4_layWeights_9 : decode cX4_layWeights 9 = .ok (.getfield 23, 3) := dk_180 0 23 (dk_at dksX4_layWeights_0 9 rfl rfl)
theorem dX4_layWeights_12 : decode cX4_layWeights 12 = .ok (.iload_n 1, 1) := dk_27 (dk_at dksX4_layWeights_0 12 rfl rfl)
theorem dX4_layWeights_13 : decode cX4_layWeights 13 = .ok (.aload_n 0, 1) := dk_42 (dk_at dksX4_layWeights_0 13 rfl rfl)
theorem dX4_layWeights_14 : decode cX4_layWeights 14 = .ok (.getfield 20, 3) := dk_180 0 20 (dk_at dksX4_layWeights_0 14 rfl rfl)
theorem dX4_layWeights_17 : decode cX4_layWeights 17 = .ok (.iload_n 1, 1) := dk_27 (dk_at dksX4_layWeights_0 17 rfl rfl)
theorem dX4_layWeights_18 : decode cX4_layWeights 18 = .ok (.iaload, 1) := dk_46 (dk_at dksX4_layWeights_0 18 rfl rfl)
theorem dX4_layWeights_19 : decode cX4_layWeights 19 = .ok (.i2d, 1) := dk_135 (dk_at dksX4_layWeights_0 19 rfl rfl)
theorem dX4_layWeights_20 : decode cX4_layWeights 20 = .ok (.dastore, 1) := dk_82 (dk_at dksX4_layWeights_0 20 rfl rfl)
theorem dX4_layWeights_21 : decode cX4_layWeights 21 = .ok (.iinc 1 1, 3) := dk_132 1 1 (dk_at dksX4_layWeights_0 21 rfl rfl)
theorem dX4_layWeights_24 : decode cX4_layWeights 24 = .ok (.goto (-22), 3) := dk_167 255 234 (dk_at dksX4_layWeights_1 0 rfl rfl)
theorem dX4_layWeights_27 : decode cX4_layWeights 27 = .ok (.aload_n 0, 1) := dk_42 (dk_at dksX4_layWeights_1 3 rfl rfl)
theorem dX4_layWeights_28 : decode cX4_layWeights 28 = .ok (.iconst 0, 1) := dk_3 (dk_at dksX4_layWeights_1 4 rfl rfl)
theorem dX4_layWeights_29 : decode cX4_layWeights 29 = .ok (.putfield 52, 3) := dk_181 0 52 (dk_at dksX4_layWeights_1 5 rfl rfl)
theorem dX4_layWeights_32 : decode cX4_layWeights 32 = .ok (.return_, 1) := dk_177 (dk_at dksX4_layWeights_1 8 rfl rfl)
abbrev cX4_thrown : ByteArray := prog_11_method_2_code
def yX4_thrown : MethodName := ⟨RX4, "thrown", "()I"⟩
theorem dX4_thrown_0 : decode cX4_thrown 0 = .ok (.aload_n 0, 1) := by decide +kernel
theorem dX4_thrown_1 : decode cX4_thrown 1 = .ok (.getfield 45, 3) := by decide +kernel
theorem dX4_thrown_4 : decode cX4_thrown 4 = .ok (.ireturn, 1) := by decide +kernel
abbrev cX4_setArms : ByteArray := prog_11_method_7_code
def yX4_setArms : MethodName := ⟨RX4, "setArms", "(I)I"⟩
def dkwX4_setArms_1 : List UInt8 := [158, 0, 5, 3, 172, 42, 180, 0, 7, 61, 42, 27, 181, 0, 7, 42, 182, 0, 42, 28, 172]
abbrev dktX4_setArms_1 : List UInt8 := dkwX4_setArms_1 ++ []
def dkwX4_setArms_0 : List UInt8 := [42, 27, 6, 16, 6, 184, 0, 48, 153, 0, 7, 3, 167, 0, 4, 4, 181, 0, 45, 42, 180, 0, 45]
abbrev dktX4_setArms_0 : List UInt8 := dkwX4_setArms_0 ++ dktX4_setArms_1
theorem dksX4_setArms_0 : cX4_setArms.data.toList.drop 0 = dktX4_setArms_0 := by decide +kernel
theorem dksX4_setArms_1 : cX4_setArms.data.toList.drop 23 = dktX4_setArms_1 := dk_seg dksX4_setArms_0 23 rfl rfl
theorem dX4_setArms_0 : decode cX4_setArms 0 = .ok (.aload_n 0, 1) := dk_42 (dk_at dksX4_setArms_0 0 rfl rfl)
theorem dX4_setArms_1 : decode cX4_setArms 1 = .ok (.iload_n 1, 1) := dk_27 (dk_at dksX4_setArms_0 1 rfl rfl)
theorem dX4_setArms_2 : decode cX4_setArms 2 = .ok (.iconst 3, 1) := dk_6 (dk_at dksX4_setArms_0 2 rfl rfl)
theorem dX4_setArms_3 : decode cX4_setArms 3 = .ok (.bipush 6, 2) := dk_16 6 (dk_at dksX4_setArms_0 3 rfl rfl)
theorem dX4_setArms_5 : decode cX4_setArms 5 = .ok (.invokestatic 48, 3) := dk_184 0 48 (dk_at dksX4_setArms_0 5 rfl rfl)
theorem dX4_setArms_8 : decode cX4_setArms 8 = .ok (.ifCond .eq 7, 3) := dk_153 0 7 (dk_at dksX4_setArms_0 8 rfl rfl)
theorem dX4_setArms_11 : decode cX4_setArms 11 = .ok (.iconst 0, 1) := dk_3 (dk_at dksX4_setArms_0 11 rfl rfl)
theorem dX4_setArms_12 : decode cX4_setArms 12 = .ok (.goto 4, 3) := dk_167 0 4 (dk_at dksX4_setArms_0 12 rfl rfl)
theorem dX4_setArms_15 : decode cX4_setArms 15 = .ok (.iconst 1, 1) := dk_4 (dk_at dksX4_setArms_0 15 rfl rfl)
theorem dX4_setArms_16 : decode cX4_setArms 16 = .ok (.putfield 45, 3) := dk_181 0 45 (dk_at dksX4_setArms_0 16 rfl rfl)
theorem dX4_setArms_19 : decode cX4_setArms 19 = .ok (.aload_n 0, 1) := dk_42 (dk_at dksX4_setArms_0 19 rfl rfl)
theorem dX4_setArms_20 : decode cX4_setArms 20 = .ok (.getfield 45, 3) := dk_180 0 45 (dk_at dksX4_setArms_0 20 rfl rfl)
theorem dX4_setArms_23 : decode cX4_setArms 23 = .ok (.ifCond .le 5, 3) := dk_158 0 5 (dk_at dksX4_setArms_1 0 rfl rfl)
theorem dX4_setArms_26 : decode cX4_setArms 26 = .ok (.iconst 0, 1) := dk_3 (dk_at dksX4_setArms_1 3 rfl rfl)
theorem dX4_setArms_27 : decode cX4_setArms 27 = .ok (.ireturn, 1) := dk_172 (dk_at dksX4_setArms_1 4 rfl rfl)
theorem dX4_setArms_28 : decode cX4_setArms 28 = .ok (.aload_n 0, 1) := dk_42 (dk_at dksX4_setArms_1 5 rfl rfl)
theorem dX4_setArms_29 : decode cX4_setArms 29 = .ok (.getfield 7, 3) := dk_180 0 7 (dk_at dksX4_setArms_1 6 rfl rfl)
theorem dX4_setArms_32 : decode cX4_setArms 32 = .ok (.istore_n 2, 1) := dk_61 (dk_at dksX4_setArms_1 9 rfl rfl)
theorem dX4_setArms_33 : decode cX4_setArms 33 = .ok (.aload_n 0, 1) := dk_42 (dk_at dksX4_setArms_1 10 rfl rfl)
theorem dX4_setArms_34 : decode cX4_setArms 34 = .ok (.iload_n 1, 1) := dk_27 (dk_at dksX4_setArms_1 11 rfl rfl)
theorem dX4_setArms_35 : decode cX4_setArms 35 = .ok (.putfield 7, 3) := dk_181 0 7 (dk_at dksX4_setArms_1 12 rfl rfl)
theorem dX4_setArms_38 : decode cX4_setArms 38 = .ok (.aload_n 0, 1) := dk_42 (dk_at dksX4_setArms_1 15 rfl rfl)
theorem dX4_setArms_39 : decode cX4_setArms 39 = .ok (.invokevirtual 42, 3) := dk_182 0 42 (dk_at dksX4_setArms_1 16 rfl rfl)
theorem dX4_setArms_42 : decode cX4_setArms 42 = .ok (.iload_n 2, 1) := dk_28 (dk_at dksX4_setArms_1 19 rfl rfl)
theorem dX4_setArms_43 : decode cX4_setArms 43 = .ok (.ireturn, 1) := dk_172 (dk_at dksX4_setArms_1 20 rfl rfl)
abbrev cX4_within : ByteArray := prog_11_method_3_code
def yX4_within : MethodName := ⟨RX4, "within", "(III)Z"⟩
def dkwX4_within_0 : List UInt8 := [26, 27, 161, 0, 12, 26, 28, 163, 0, 7, 4, 167, 0, 4, 3, 172]
abbrev dktX4_within_0 : List UInt8 := dkwX4_within_0 ++ []
theorem dksX4_within_0 : cX4_within.data.toList.drop 0 = dktX4_within_0 := by decide +kernel
theorem dX4_within_0 : decode cX4_within 0 = .ok (.iload_n 0, 1) := dk_26 (dk_at dksX4_within_0 0 rfl rfl)
theorem dX4_within_1 : decode cX4_within 1 = .ok (.iload_n 1, 1) := dk_27 (dk_at dksX4_within_0 1 rfl rfl)
theorem dX4_within_2 : decode cX4_within 2 = .ok (.if_icmp .lt 12, 3) := dk_161 0 12 (dk_at dksX4_within_0 2 rfl rfl)
theorem dX4_within_5 : decode cX4_within 5 = .ok (.iload_n 0, 1) := dk_26 (dk_at dksX4_within_0 5 rfl rfl)
theorem dX4_within_6 : decode cX4_within 6 = .ok (.iload_n 2, 1) := dk_28 (dk_at dksX4_within_0 6 rfl rfl)
theorem dX4_within_7 : decode cX4_within 7 = .ok (.if_icmp .gt 7, 3) := dk_163 0 7 (dk_at dksX4_within_0 7 rfl rfl)
theorem dX4_within_10 : decode cX4_within 10 = .ok (.iconst 1, 1) := dk_4 (dk_at dksX4_within_0 10 rfl rfl)
theorem dX4_within_11 : decode cX4_within 11 = .ok (.goto 4, 3) := dk_167 0 4 (dk_at dksX4_within_0 11 rfl rfl)
theorem dX4_within_14 : decode cX4_within 14 = .ok (.iconst 0, 1) := dk_3 (dk_at dksX4_within_0 14 rfl rfl)
theorem dX4_within_15 : decode cX4_within 15 = .ok (.ireturn, 1) := dk_172 (dk_at dksX4_within_0 15 rfl rfl)
abbrev cX4_arms : ByteArray := prog_11_method_8_code
def yX4_arms : MethodName := ⟨RX4, "arms", "()I"⟩
def dkwX4_arms_0 : List UInt8 := [42, 3, 181, 0, 45, 42, 180, 0, 7, 172]
abbrev dktX4_arms_0 : List UInt8 := dkwX4_arms_0 ++ []
theorem dksX4_arms_0 : cX4_arms.data.toList.drop 0 = dktX4_arms_0 := by decide +kernel
theorem dX4_arms_0 : decode cX4_arms 0 = .ok (.aload_n 0, 1) := dk_42 (dk_at dksX4_arms_0 0 rfl rfl)
theorem dX4_arms_1 : decode cX4_arms 1 = .ok (.iconst 0, 1) := dk_3 (dk_at dksX4_arms_0 1 rfl rfl)
theorem dX4_arms_2 : decode cX4_arms 2 = .ok (.putfield 45, 3) := dk_181 0 45 (dk_at dksX4_arms_0 2 rfl rfl)
theorem dX4_arms_5 : decode cX4_arms 5 = .ok (.aload_n 0, 1) := dk_42 (dk_at dksX4_arms_0 5 rfl rfl)
theorem dX4_arms_6 : decode cX4_arms 6 = .ok (.getfield 7, 3) := dk_180 0 7 (dk_at dksX4_arms_0 6 rfl rfl)
theorem dX4_arms_9 : decode cX4_arms 9 = .ok (.ireturn, 1) := dk_172 (dk_at dksX4_arms_0 9 rfl rfl)
abbrev cX4_setInflow : ByteArray := prog_11_method_9_code
def yX4_setInflow : MethodName := ⟨RX4, "setInflow", "(II)I"⟩
def dkwX4_setInflow_2 : List UInt8 := [42, 180, 0, 13, 27, 28, 79, 42, 182, 0, 55, 29, 172]
abbrev dktX4_setInflow_2 : List UInt8 := dkwX4_setInflow_2 ++ []
def dkwX4_setInflow_1 : List UInt8 := [3, 167, 0, 4, 5, 181, 0, 45, 42, 180, 0, 45, 158, 0, 5, 3, 172, 42, 180, 0, 13, 27, 46, 62]
abbrev dktX4_setInflow_1 : List UInt8 := dkwX4_setInflow_1 ++ dktX4_setInflow_2
def dkwX4_setInflow_0 : List UInt8 := [42, 42, 27, 182, 0, 58, 154, 0, 7, 4, 167, 0, 19, 28, 3, 17, 39, 15, 184, 0, 48, 153, 0, 7]
abbrev dktX4_setInflow_0 : List UInt8 := dkwX4_setInflow_0 ++ dktX4_setInflow_1
theorem dksX4_setInflow_0 : cX4_setInflow.data.toList.drop 0 = dktX4_setInflow_0 := by decide +kernel
theorem dksX4_setInflow_1 : cX4_setInflow.data.toList.drop 24 = dktX4_setInflow_1 := dk_seg dksX4_setInflow_0 24 rfl rfl
theorem dksX4_setInflow_2 : cX4_setInflow.data.toList.drop 48 = dktX4_setInflow_2 := dk_seg dksX4_setInflow_1 24 rfl rfl
theorem dX4_setInflow_0 : decode cX4_setInflow 0 = .ok (.aload_n 0, 1) := dk_42 (dk_at dksX4_setInflow_0 0 rfl rfl)
theorem dX4_setInflow_1 : decode cX4_setInflow 1 = .ok (.aload_n 0, 1) := dk_42 (dk_at dksX4_setInflow_0 1 rfl rfl)
theorem dX4_setInflow_2 : decode cX4_setInflow 2 = .ok (.iload_n 1, 1) := dk_27 (dk_at dksX4_setInflow_0 2 rfl rfl)
theorem dX4_setInflow_3 : decode cX4_setInflow 3 = .ok (.invokevirtual 58, 3) := dk_182 0 58 (dk_at dksX4_setInflow_0 3 rfl rfl)
theorem dX4_setInflow_6 : decode cX4_setInflow 6 = .ok (.ifCond .ne 7, 3) := dk_154 0 7 (dk_at dksX4_setInflow_0 6 rfl rfl)
theorem dX4_setInflow_9 : decode cX4_setInflow 9 = .ok (.iconst 1, 1) := dk_4 (dk_at dksX4_setInflow_0 9 rfl rfl)
theorem dX4_setInflow_10 : decode cX4_setInflow 10 = .ok (.goto 19, 3) := dk_167 0 19 (dk_at dksX4_setInflow_0 10 rfl rfl)
theorem dX4_setInflow_13 : decode cX4_setInflow 13 = .ok (.iload_n 2, 1) := dk_28 (dk_at dksX4_setInflow_0 13 rfl rfl)
theorem dX4_setInflow_14 : decode cX4_setInflow 14 = .ok (.iconst 0, 1) := dk_3 (dk_at dksX4_setInflow_0 14 rfl rfl)
theorem dX4_setInflow_15 : decode cX4_setInflow 15 = .ok (.sipush 9999, 3) := dk_17 39 15 (dk_at dksX4_setInflow_0 15 rfl rfl)
theorem dX4_setInflow_18 : decode cX4_setInflow 18 = .ok (.invokestatic 48, 3) := dk_184 0 48 (dk_at dksX4_setInflow_0 18 rfl rfl)
theorem dX4_setInflow_21 : decode cX4_setInflow 21 = .ok (.ifCond .eq 7, 3) := dk_153 0 7 (dk_at dksX4_setInflow_0 21 rfl rfl)
theorem dX4_setInflow_24 : decode cX4_setInflow 24 = .ok (.iconst 0, 1) := dk_3 (dk_at dksX4_setInflow_1 0 rfl rfl)
theorem dX4_setInflow_25 : decode cX4_setInflow 25 = .ok (.goto 4, 3) := dk_167 0 4 (dk_at dksX4_setInflow_1 1 rfl rfl)
theorem dX4_setInflow_28 : decode cX4_setInflow 28 = .ok (.iconst 2, 1) := dk_5 (dk_at dksX4_setInflow_1 4 rfl rfl)
theorem dX4_setInflow_29 : decode cX4_setInflow 29 = .ok (.putfield 45, 3) := dk_181 0 45 (dk_at dksX4_setInflow_1 5 rfl rfl)
theorem dX4_setInflow_32 : decode cX4_setInflow 32 = .ok (.aload_n 0, 1) := dk_42 (dk_at dksX4_setInflow_1 8 rfl rfl)
theorem dX4_setInflow_33 : decode cX4_setInflow 33 = .ok (.getfield 45, 3) := dk_180 0 45 (dk_at dksX4_setInflow_1 9 rfl rfl)
theorem dX4_setInflow_36 : decode cX4_setInflow 36 = .ok (.ifCond .le 5, 3) := dk_158 0 5 (dk_at dksX4_setInflow_1 12 rfl rfl)
theorem dX4_setInflow_39 : decode cX4_setInflow 39 = .ok (.iconst 0, 1) := dk_3 (dk_at dksX4_setInflow_1 15 rfl rfl)
theorem dX4_setInflow_40 : decode cX4_setInflow 40 = .ok (.ireturn, 1) := dk_172 (dk_at dksX4_setInflow_1 16 rfl rfl)
theorem dX4_setInflow_41 : decode cX4_setInflow 41 = .ok (.aload_n 0, 1) := dk_42 (dk_at dksX4_setInflow_1 17 rfl rfl)
theorem dX4_setInflow_42 : decode cX4_setInflow 42 = .ok (.getfield 13, 3) := dk_180 0 13 (dk_at dksX4_setInflow_1 18 rfl rfl)
theorem dX4_setInflow_45 : decode cX4_setInflow 45 = .ok (.iload_n 1, 1) := dk_27 (dk_at dksX4_setInflow_1 21 rfl rfl)
theorem dX4_setInflow_46 : decode cX4_setInflow 46 = .ok (.iaload, 1) := dk_46 (dk_at dksX4_setInflow_1 22 rfl rfl)
theorem dX4_setInflow_47 : decode cX4_setInflow 47 = .ok (.istore_n 3, 1) := dk_62 (dk_at dksX4_setInflow_1 23 rfl rfl)
theorem dX4_setInflow_48 : decode cX4_setInflow 48 = .ok (.aload_n 0, 1) := dk_42 (dk_at dksX4_setInflow_2 0 rfl rfl)
theorem dX4_setInflow_49 : decode cX4_setInflow 49 = .ok (.getfield 13, 3) := dk_180 0 13 (dk_at dksX4_setInflow_2 1 rfl rfl)
theorem dX4_setInflow_52 : decode cX4_setInflow 52 = .ok (.iload_n 1, 1) := dk_27 (dk_at dksX4_setInflow_2 4 rfl rfl)
theorem dX4_setInflow_53 : decode cX4_setInflow 53 = .ok (.iload_n 2, 1) := dk_28 (dk_at dksX4_setInflow_2 5 rfl rfl)
theorem dX4_setInflow_54 : decode cX4_setInflow 54 = .ok (.iastore, 1) := dk_79 (dk_at dksX4_setInflow_2 6 rfl rfl)
theorem dX4_setInflow_55 : decode cX4_setInflow 55 = .ok (.aload_n 0, 1) := dk_42 (dk_at dksX4_setInflow_2 7 rfl rfl)
theorem dX4_setInflow_56 : decode cX4_setInflow 56 = .ok (.invokevirtual 55, 3) := dk_182 0 55 (dk_at dksX4_setInflow_2 8 rfl rfl)
theorem dX4_setInflow_59 : decode cX4_setInflow 59 = .ok (.iload_n 3, 1) := dk_29 (dk_at dksX4_setInflow_2 11 rfl rfl)
theorem dX4_setInflow_60 : decode cX4_setInflow 60 = .ok (.ireturn, 1) := dk_172 (dk_at dksX4_setInflow_2 12 rfl rfl)
abbrev cX4_isArm : ByteArray := prog_11_method_4_code
def yX4_isArm : MethodName := ⟨RX4, "isArm", "(I)Z"⟩
def dkwX4_isArm_0 : List UInt8 := [27, 3, 42, 180, 0, 7, 4, 100, 184, 0, 48, 172]
abbrev dktX4_isArm_0 : List UInt8 := dkwX4_isArm_0 ++ []
theorem dksX4_isArm_0 : cX4_isArm.data.toList.drop 0 = dktX4_isArm_0 := by decide +kernel
theorem dX4_isArm_0 : decode cX4_isArm 0 = .ok (.iload_n 1, 1) := dk_27 (dk_at dksX4_isArm_0 0 rfl rfl)
theorem dX4_isArm_1 : decode cX4_isArm 1 = .ok (.iconst 0, 1) := dk_3 (dk_at dksX4_isArm_0 1 rfl rfl)
theorem dX4_isArm_2 : decode cX4_isArm 2 = .ok (.aload_n 0, 1) := dk_42 (dk_at dksX4_isArm_0 2 rfl rfl)
theorem dX4_isArm_3 : decode cX4_isArm 3 = .ok (.getfield 7, 3) := dk_180 0 7 (dk_at dksX4_isArm_0 3 rfl rfl)
theorem dX4_isArm_6 : decode cX4_isArm 6 = .ok (.iconst 1, 1) := dk_4 (dk_at dksX4_isArm_0 6 rfl rfl)
theorem dX4_isArm_7 : decode cX4_isArm 7 = .ok (.isub, 1) := dk_100 (dk_at dksX4_isArm_0 7 rfl rfl)
theorem dX4_isArm_8 : decode cX4_isArm 8 = .ok (.invokestatic 48, 3) := dk_184 0 48 (dk_at dksX4_isArm_0 8 rfl rfl)
theorem dX4_isArm_11 : decode cX4_isArm 11 = .ok (.ireturn, 1) := dk_172 (dk_at dksX4_isArm_0 11 rfl rfl)
abbrev cX4_setOutflow : ByteArray := prog_11_method_10_code
def yX4_setOutflow : MethodName := ⟨RX4, "setOutflow", "(II)I"⟩
def dkwX4_setOutflow_2 : List UInt8 := [42, 180, 0, 17, 27, 28, 79, 42, 182, 0, 55, 29, 172]
abbrev dktX4_setOutflow_2 : List UInt8 := dkwX4_setOutflow_2 ++ []
def dkwX4_setOutflow_1 : List UInt8 := [3, 167, 0, 4, 5, 181, 0, 45, 42, 180, 0, 45, 158, 0, 5, 3, 172, 42, 180, 0, 17, 27, 46, 62]
abbrev dktX4_setOutflow_1 : List UInt8 := dkwX4_setOutflow_1 ++ dktX4_setOutflow_2
def dkwX4_setOutflow_0 : List UInt8 := [42, 42, 27, 182, 0, 58, 154, 0, 7, 4, 167, 0, 19, 28, 3, 17, 39, 15, 184, 0, 48, 153, 0, 7]
abbrev dktX4_setOutflow_0 : List UInt8 := dkwX4_setOutflow_0 ++ dktX4_setOutflow_1
theorem dksX4_setOutflow_0 : cX4_setOutflow.data.toList.drop 0 = dktX4_setOutflow_0 := by decide +kernel
theorem dksX4_setOutflow_1 : cX4_setOutflow.data.toList.drop 24 = dktX4_setOutflow_1 := dk_seg dksX4_setOutflow_0 24 rfl rfl
theorem dksX4_setOutflow_2 : cX4_setOutflow.data.toList.drop 48 = dktX4_setOutflow_2 := dk_seg dksX4_setOutflow_1 24 rfl rfl
theorem dX4_setOutflow_0 : decode cX4_setOutflow 0 = .ok (.aload_n 0, 1) := dk_42 (dk_at dksX4_setOutflow_0 0 rfl rfl)
theorem dX4_setOutflow_1 : decode cX4_setOutflow 1 = .ok (.aload_n 0, 1) := dk_42 (dk_at dksX4_setOutflow_0 1 rfl rfl)
theorem dX4_setOutflow_2 : decode cX4_setOutflow 2 = .ok (.iload_n 1, 1) := dk_27 (dk_at dksX4_setOutflow_0 2 rfl rfl)
theorem dX4_setOutflow_3 : decode cX4_setOutflow 3 = .ok (.invokevirtual 58, 3) := dk_182 0 58 (dk_at dksX4_setOutflow_0 3 rfl rfl)
theorem dX4_setOutflow_6 : decode cX4_setOutflow 6 = .ok (.ifCond .ne 7, 3) := dk_154 0 7 (dk_at dksX4_setOutflow_0 6 rfl rfl)
theorem dX4_setOutflow_9 : decode cX4_setOutflow 9 = .ok (.iconst 1, 1) := dk_4 (dk_at dksX4_setOutflow_0 9 rfl rfl)
theorem dX4_setOutflow_10 : decode cX4_setOutflow 10 = .ok (.goto 19, 3) := dk_167 0 19 (dk_at dksX4_setOutflow_0 10 rfl rfl)
theorem dX4_setOutflow_13 : decode cX4_setOutflow 13 = .ok (.iload_n 2, 1) := dk_28 (dk_at dksX4_setOutflow_0 13 rfl rfl)
theorem dX4_setOutflow_14 : decode cX4_setOutflow 14 = .ok (.iconst 0, 1) := dk_3 (dk_at dksX4_setOutflow_0 14 rfl rfl)
theorem dX4_setOutflow_15 : decode cX4_setOutflow 15 = .ok (.sipush 9999, 3) := dk_17 39 15 (dk_at dksX4_setOutflow_0 15 rfl rfl)
theorem dX4_setOutflow_18 : decode cX4_setOutflow 18 = .ok (.invokestatic 48, 3) := dk_184 0 48 (dk_at dksX4_setOutflow_0 18 rfl rfl)
theorem dX4_setOutflow_21 : decode cX4_setOutflow 21 = .ok (.ifCond .eq 7, 3) := dk_153 0 7 (dk_at dksX4_setOutflow_0 21 rfl rfl)
theorem dX4_setOutflow_24 : decode cX4_setOutflow 24 = .ok (.iconst 0, 1) := dk_3 (dk_at dksX4_setOutflow_1 0 rfl rfl)
theorem dX4_setOutflow_25 : decode cX4_setOutflow 25 = .ok (.goto 4, 3) := dk_167 0 4 (dk_at dksX4_setOutflow_1 1 rfl rfl)
theorem dX4_setOutflow_28 : decode cX4_setOutflow 28 = .ok (.iconst 2, 1) := dk_5 (dk_at dksX4_setOutflow_1 4 rfl rfl)
theorem dX4_setOutflow_29 : decode cX4_setOutflow 29 = .ok (.putfield 45, 3) := dk_181 0 45 (dk_at dksX4_setOutflow_1 5 rfl rfl)
theorem dX4_setOutflow_32 : decode cX4_setOutflow 32 = .ok (.aload_n 0, 1) := dk_42 (dk_at dksX4_setOutflow_1 8 rfl rfl)
theorem dX4_setOutflow_33 : decode cX4_setOutflow 33 = .ok (.getfield 45, 3) := dk_180 0 45 (dk_at dksX4_setOutflow_1 9 rfl rfl)
theorem dX4_setOutflow_36 : decode cX4_setOutflow 36 = .ok (.ifCond .le 5, 3) := dk_158 0 5 (dk_at dksX4_setOutflow_1 12 rfl rfl)
theorem dX4_setOutflow_39 : decode cX4_setOutflow 39 = .ok (.iconst 0, 1) := dk_3 (dk_at dksX4_setOutflow_1 15 rfl rfl)
theorem dX4_setOutflow_40 : decode cX4_setOutflow 40 = .ok (.ireturn, 1) := dk_172 (dk_at dksX4_setOutflow_1 16 rfl rfl)
theorem dX4_setOutflow_41 : decode cX4_setOutflow 41 = .ok (.aload_n 0, 1) := dk_42 (dk_at dksX4_setOutflow_1 17 rfl rfl)
theorem dX4_setOutflow_42 : decode cX4_setOutflow 42 = .ok (.getfield 17, 3) := dk_180 0 17 (dk_at dksX4_setOutflow_1 18 rfl rfl)
theorem dX4_setOutflow_45 : decode cX4_setOutflow 45 = .ok (.iload_n 1, 1) := dk_27 (dk_at dksX4_setOutflow_1 21 rfl rfl)
theorem dX4_setOutflow_46 : decode cX4_setOutflow 46 = .ok (.iaload, 1) := dk_46 (dk_at dksX4_setOutflow_1 22 rfl rfl)
theorem dX4_setOutflow_47 : decode cX4_setOutflow 47 = .ok (.istore_n 3, 1) := dk_62 (dk_at dksX4_setOutflow_1 23 rfl rfl)
theorem dX4_setOutflow_48 : decode cX4_setOutflow 48 = .ok (.aload_n 0, 1) := dk_42 (dk_at dksX4_setOutflow_2 0 rfl rfl)
theorem dX4_setOutflow_49 : decode cX4_setOutflow 49 = .ok (.getfield 17, 3) := dk_180 0 17 (dk_at dksX4_setOutflow_2 1 rfl rfl)
theorem dX4_setOutflow_52 : decode cX4_setOutflow 52 = .ok (.iload_n 1, 1) := dk_27 (dk_at dksX4_setOutflow_2 4 rfl rfl)
theorem dX4_setOutflow_53 : decode cX4_setOutflow 53 = .ok (.iload_n 2, 1) := dk_28 (dk_at dksX4_setOutflow_2 5 rfl rfl)
theorem dX4_setOutflow_54 : decode cX4_setOutflow 54 = .ok (.iastore, 1) := dk_79 (dk_at dksX4_setOutflow_2 6 rfl rfl)
theorem dX4_setOutflow_55 : decode cX4_setOutflow 55 = .ok (.aload_n 0, 1) := dk_42 (dk_at dksX4_setOutflow_2 7 rfl rfl)
theorem dX4_setOutflow_56 : decode cX4_setOutflow 56 = .ok (.invokevirtual 55, 3) := dk_182 0 55 (dk_at dksX4_setOutflow_2 8 rfl rfl)
theorem dX4_setOutflow_59 : decode cX4_setOutflow 59 = .ok (.iload_n 3, 1) := dk_29 (dk_at dksX4_setOutflow_2 11 rfl rfl)
theorem dX4_setOutflow_60 : decode cX4_setOutflow 60 = .ok (.ireturn, 1) := dk_172 (dk_at dksX4_setOutflow_2 12 rfl rfl)
abbrev cX4_setWeight : ByteArray := prog_11_method_11_code
def yX4_setWeight : MethodName := ⟨RX4, "setWeight", "(III)I"⟩
def dkwX4_setWeight_3 : List UInt8 := [29, 79, 42, 182, 0, 55, 21, 4, 172]
abbrev dktX4_setWeight_3 : List UInt8 := dkwX4_setWeight_3 ++ []
def dkwX4_setWeight_2 : List UInt8 := [172, 42, 180, 0, 20, 16, 6, 27, 104, 28, 96, 46, 54, 4, 42, 180, 0, 20, 16, 6, 27, 104, 28, 96]
abbrev dktX4_setWeight_2 : List UInt8 := dkwX4_setWeight_2 ++ dktX4_setWeight_3
def dkwX4_setWeight_1 : List UInt8 := [16, 99, 184, 0, 48, 153, 0, 7, 3, 167, 0, 4, 5, 181, 0, 45, 42, 180, 0, 45, 158, 0, 5, 3]
abbrev dktX4_setWeight_1 : List UInt8 := dkwX4_setWeight_1 ++ dktX4_setWeight_2
def dkwX4_setWeight_0 : List UInt8 := [42, 42, 27, 182, 0, 58, 153, 0, 11, 42, 28, 182, 0, 58, 154, 0, 7, 4, 167, 0, 18, 29, 3]
abbrev dktX4_setWeight_0 : List UInt8 := dkwX4_setWeight_0 ++ dktX4_setWeight_1
theorem dksX4_setWeight_0 : cX4_setWeight.data.toList.drop 0 = dktX4_setWeight_0 := by decide +kernel
theorem dksX4_setWeight_1 : cX4_setWeight.data.toList.drop 23 = dktX4_setWeight_1 := dk_seg dksX4_setWeight_0 23 rfl rfl
theorem dksX4_setWeight_2 : cX4_setWeight.data.toList.drop 47 = dktX4_setWeight_2 := dk_seg dksX4_setWeight_1 24 rfl rfl
theorem dksX4_setWeight_3 : cX4_setWeight.data.toList.drop 71 = dktX4_setWeight_3 := dk_seg dksX4_setWeight_2 24 rfl rfl
theorem dX4_setWeight_0 : decode cX4_setWeight 0 = .ok (.aload_n 0, 1) := dk_42 (dk_at dksX4_setWeight_0 0 rfl rfl)
theorem dX4_setWeight_1 : decode cX4_setWeight 1 = .ok (.aload_n 0, 1) := dk_42 (dk_at dksX4_setWeight_0 1 rfl rfl)
theorem dX4_setWeight_2 : decode cX4_setWeight 2 = .ok (.iload_n 1, 1) := dk_27 (dk_at dksX4_setWeight_0 2 rfl rfl)
theorem dX4_setWeight_3 : decode cX4_setWeight 3 = .ok (.invokevirtual 58, 3) := dk_182 0 58 (dk_at dksX4_setWeight_0 3 rfl rfl)
theorem dX4_setWeight_6 : decode cX4_setWeight 6 = .ok (.ifCond .eq 11, 3) := dk_153 0 11 (dk_at dksX4_setWeight_0 6 rfl rfl)
theorem dX4_setWeight_9 : decode cX4_setWeight 9 = .ok (.aload_n 0, 1) := dk_42 (dk_at dksX4_setWeight_0 9 rfl rfl)
theorem dX4_setWeight_10 : decode cX4_setWeight 10 = .ok (.iload_n 2, 1) := dk_28 (dk_at dksX4_setWeight_0 10 rfl rfl)
theorem dX4_setWeight_11 : decode cX4_setWeight 11 = .ok (.invokevirtual 58, 3) := dk_182 0 58 (dk_at dksX4_setWeight_0 11 rfl rfl)
theorem dX4_setWeight_14 : decode cX4_setWeight 14 = .ok (.ifCond .ne 7, 3) := dk_154 0 7 (dk_at dksX4_setWeight_0 14 rfl rfl)
theorem dX4_setWeight_17 : decode cX4_setWeight 17 = .ok (.iconst 1, 1) := dk_4 (dk_at dksX4_setWeight_0 17 rfl rfl)
theorem dX4_setWeight_18 : decode cX4_setWeight 18 = .ok (.goto 18, 3) := dk_167 0 18 (dk_at dksX4_setWeight_0 18 rfl rfl)
theorem dX4_setWeight_21 : decode cX4_setWeight 21 = .ok (.iload_n 3, 1) := dk_29 (dk_at dksX4_setWeight_0 21 rfl rfl)
theorem dX4_setWeight_22 : decode cX4_setWeight 22 = .ok (.iconst 0, 1) := dk_3 (dk_at dksX4_setWeight_0 22 rfl rfl)
theorem dX4_setWeight_23 : decode cX4_setWeight 23 = .ok (.bipush 99, 2) := dk_16 99 (dk_at dksX4_setWeight_1 0 rfl rfl)
theorem dX4_setWeight_25 : decode cX4_setWeight 25 = .ok (.invokestatic 48, 3) := dk_184 0 48 (dk_at dksX4_setWeight_1 2 rfl rfl)
theorem dX4_setWeight_28 : decode cX4_setWeight 28 = .ok (.ifCond .eq 7, 3) := dk_153 0 7 (dk_at dksX4_setWeight_1 5 rfl rfl)
theorem dX4_setWeight_31 : decode cX4_setWeight 31 = .ok (.iconst 0, 1) := dk_3 (dk_at dksX4_setWeight_1 8 rfl rfl)
theorem dX4_setWeight_32 : decode cX4_setWeight 32 = .ok (.goto 4, 3) := dk_167 0 4 (dk_at dksX4_setWeight_1 9 rfl rfl)
theorem dX4_setWeight_35 : decode cX4_setWeight 35 = .ok (.iconst 2, 1) := dk_5 (dk_at dksX4_setWeight_1 12 rfl rfl)
theorem dX4_setWeight_36 : decode cX4_setWeight 36 = .ok (.putfield 45, 3) := dk_181 0 45 (dk_at dksX4_setWeight_1 13 rfl rfl)
theorem dX4_setWeight_39 : decode cX4_setWeight 39 = .ok (.aload_n 0, 1) := dk_42 (dk_at dksX4_setWeight_1 16 rfl rfl)
theorem dX4_setWeight_40 : decode cX4_setWeight 40 = .ok (.getfield 45, 3) := dk_180 0 45 (dk_at dksX4_setWeight_1 17 rfl rfl)
theorem dX4_setWeight_43 : decode cX4_setWeight 43 = .ok (.ifCond .le 5, 3) := dk_158 0 5 (dk_at dksX4_setWeight_1 20 rfl rfl)
theorem dX4_setWeight_46 : decode cX4_setWeight 46 = .ok (.iconst 0, 1) := dk_3 (dk_at dksX4_setWeight_1 23 rfl rfl)
theorem dX4_setWeight_47 : decode cX4_setWeight 47 = .ok (.ireturn, 1) := dk_172 (dk_at dksX4_setWeight_2 0 rfl rfl)
theorem dX4_setWeight_48 : decode cX4_setWeight 48 = .ok (.aload_n 0, 1) := dk_42 (dk_at dksX4_setWeight_2 1 rfl rfl)
theorem dX4_setWeight_49 : decode cX4_setWeight 49 = .ok (.getfield 20, 3) := dk_180 0 20 (dk_at dksX4_setWeight_2 2 rfl rfl)
theorem dX4_setWeight_52 : decode cX4_setWeight 52 = .ok (.bipush 6, 2) := dk_16 6 (dk_at dksX4_setWeight_2 5 rfl rfl)
theorem dX4_setWeight_54 : decode cX4_setWeight 54 = .ok (.iload_n 1, 1) := dk_27 (dk_at dksX4_setWeight_2 7 rfl rfl)
theorem dX4_setWeight_55 : decode cX4_setWeight 55 = .ok (.imul, 1) := dk_104 (dk_at dksX4_setWeight_2 8 rfl rfl)
theorem dX4_setWeight_56 : decode cX4_setWeight 56 = .ok (.iload_n 2, 1) := dk_28 (dk_at dksX4_setWeight_2 9 rfl rfl)
theorem dX4_setWeight_57 : decode cX4_setWeight 57 = .ok (.iadd, 1) := dk_96 (dk_at dksX4_setWeight_2 10 rfl rfl)
theorem dX4_setWeight_58 : decode cX4_setWeight 58 = .ok (.iaload, 1) := dk_46 (dk_at dksX4_setWeight_2 11 rfl rfl)
theorem dX4_setWeight_59 : decode cX4_setWeight 59 = .ok (.istore 4, 2) := dk_54 4 (dk_at dksX4_setWeight_2 12 rfl rfl)
theorem dX4_setWeight_61 : decode cX4_setWeight 61 = .ok (.aload_n 0, 1) := dk_42 (dk_at dksX4_setWeight_2 14 rfl rfl)
theorem dX4_setWeight_62 : decode cX4_setWeight 62 = .ok (.getfield 20, 3) := dk_180 0 20 (dk_at dksX4_setWeight_2 15 rfl rfl)
theorem dX4_setWeight_65 : decode cX4_setWeight 65 = .ok (.bipush 6, 2) := dk_16 6 (dk_at dksX4_setWeight_2 18 rfl rfl)
theorem dX4_setWeight_67 : decode cX4_setWeight 67 = .ok (.iload_n 1, 1) := dk_27 (dk_at dksX4_setWeight_2 20 rfl rfl)
theorem dX4_setWeight_68 : decode cX4_setWeight 68 = .ok (.imul, 1) := dk_104 (dk_at dksX4_setWeight_2 21 rfl rfl)
theorem dX4_setWeight_69 : decode cX4_setWeight 69 = .ok (.iload_n 2, 1) := dk_28 (dk_at dksX4_setWeight_2 22 rfl rfl)
theorem dX4_setWeight_70 : decode cX4_setWeight 70 = .ok (.iadd, 1) := dk_96 (dk_at dksX4_setWeight_2 23 rfl rfl)
theorem dX4_setWeight_71 : decode cX4_setWeight 71 = .ok (.iload_n 3, 1) := dk_29 (dk_at dksX4_setWeight_3 0 rfl rfl)
theorem dX4_setWeight_72 : decode cX4_setWeight 72 = .ok (.iastore, 1) := dk_79 (dk_at dksX4_setWeight_3 1 rfl rfl)
theorem dX4_setWeight_73 : decode cX4_setWeight 73 = .ok (.aload_n 0, 1) := dk_42 (dk_at dksX4_setWeight_3 2 rfl rfl)
theorem dX4_setWeight_74 : decode cX4_setWeight 74 = .ok (.invokevirtual 55, 3) := dk_182 0 55 (dk_at dksX4_setWeight_3 3 rfl rfl)
theorem dX4_setWeight_77 : decode cX4_setWeight 77 = .ok (.iload 4, 2) := dk_21 4 (dk_at dksX4_setWeight_3 6 rfl rfl)
theorem dX4_setWeight_79 : decode cX4_setWeight 79 = .ok (.ireturn, 1) := dk_172 (dk_at dksX4_setWeight_3 8 rfl rfl)
abbrev cX4_scale : ByteArray := prog_11_method_14_code
def yX4_scale : MethodName := ⟨RX4, "scale", "(I)I"⟩
def dkwX4_scale_4 : List UInt8 := [132, 3, 1, 167, 255, 204, 42, 182, 0, 55, 28, 172]
abbrev dktX4_scale_4 : List UInt8 := dkwX4_scale_4 ++ []
def dkwX4_scale_3 : List UInt8 := [180, 0, 17, 29, 42, 180, 0, 17, 29, 46, 27, 184, 0, 62, 79, 28, 42, 180, 0, 13, 29, 46, 96, 61]
abbrev dktX4_scale_3 : List UInt8 := dkwX4_scale_3 ++ dktX4_scale_4
def dkwX4_scale_2 : List UInt8 := [180, 0, 7, 162, 0, 50, 42, 180, 0, 13, 29, 42, 180, 0, 13, 29, 46, 27, 184, 0, 62, 79, 42]
abbrev dktX4_scale_2 : List UInt8 := dkwX4_scale_2 ++ dktX4_scale_3
def dkwX4_scale_1 : List UInt8 := [3, 167, 0, 4, 5, 181, 0, 45, 42, 180, 0, 45, 158, 0, 5, 3, 172, 3, 61, 3, 62, 29, 42]
abbrev dktX4_scale_1 : List UInt8 := dkwX4_scale_1 ++ dktX4_scale_2
def dkwX4_scale_0 : List UInt8 := [42, 27, 3, 17, 1, 44, 184, 0, 48, 154, 0, 7, 4, 167, 0, 16, 42, 27, 182, 0, 66, 153, 0, 7]
abbrev dktX4_scale_0 : List UInt8 := dkwX4_scale_0 ++ dktX4_scale_1
theorem dksX4_scale_0 : cX4_scale.data.toList.drop 0 = dktX4_scale_0 := by decide +kernel
theorem dksX4_scale_1 : cX4_scale.data.toList.drop 24 = dktX4_scale_1 := dk_seg dksX4_scale_0 24 rfl rfl
theorem dksX4_scale_2 : cX4_scale.data.toList.drop 47 = dktX4_scale_2 := dk_seg dksX4_scale_1 23 rfl rfl
theorem dksX4_scale_3 : cX4_scale.data.toList.drop 70 = dktX4_scale_3 := dk_seg dksX4_scale_2 23 rfl rfl
theorem dksX4_scale_4 : cX4_scale.data.toList.drop 94 = dktX4_scale_4 := dk_seg dksX4_scale_3 24 rfl rfl
theorem dX4_scale_0 : decode cX4_scale 0 = .ok (.aload_n 0, 1) := dk_42 (dk_at dksX4_scale_0 0 rfl rfl)
theorem dX4_scale_1 : decode cX4_scale 1 = .ok (.iload_n 1, 1) := dk_27 (dk_at dksX4_scale_0 1 rfl rfl)
theorem dX4_scale_2 : decode cX4_scale 2 = .ok (.iconst 0, 1) := dk_3 (dk_at dksX4_scale_0 2 rfl rfl)
theorem dX4_scale_3 : decode cX4_scale 3 = .ok (.sipush 300, 3) := dk_17 1 44 (dk_at dksX4_scale_0 3 rfl rfl)
theorem dX4_scale_6 : decode cX4_scale 6 = .ok (.invokestatic 48, 3) := dk_184 0 48 (dk_at dksX4_scale_0 6 rfl rfl)
theorem dX4_scale_9 : decode cX4_scale 9 = .ok (.ifCond .ne 7, 3) := dk_154 0 7 (dk_at dksX4_scale_0 9 rfl rfl)
theorem dX4_scale_12 : decode cX4_scale 12 = .ok (.iconst 1, 1) := dk_4 (dk_at dksX4_scale_0 12 rfl rfl)
theorem dX4_scale_13 : decode cX4_scale 13 = .ok (.goto 16, 3) := dk_167 0 16 (dk_at dksX4_scale_0 13 rfl rfl)
theorem dX4_scale_16 : decode cX4_scale 16 = .ok (.aload_n 0, 1) := dk_42 (dk_at dksX4_scale_0 16 rfl rfl)
theorem dX4_scale_17 : decode cX4_scale 17 = .ok (.iload_n 1, 1) := dk_27 (dk_at dksX4_scale_0 17 rfl rfl)
theorem dX4_scale_18 : decode cX4_scale 18 = .ok (.invokevirtual 66, 3) := dk_182 0 66 (dk_at dksX4_scale_0 18 rfl rfl)
theorem dX4_scale_21 : decode cX4_scale 21 = .ok (.ifCond .eq 7, 3) := dk_153 0 7 (dk_at dksX4_scale_0 21 rfl rfl)
theorem dX4_scale_24 : decode cX4_scale 24 = .ok (.iconst 0, 1) := dk_3 (dk_at dksX4_scale_1 0 rfl rfl)
theorem dX4_scale_25 : decode cX4_scale 25 = .ok (.goto 4, 3) := dk_167 0 4 (dk_at dksX4_scale_1 1 rfl rfl)
theorem dX4_scale_28 : decode cX4_scale 28 = .ok (.iconst 2, 1) := dk_5 (dk_at dksX4_scale_1 4 rfl rfl)
theorem dX4_scale_29 : decode cX4_scale 29 = .ok (.putfield 45, 3) := dk_181 0 45 (dk_at dksX4_scale_1 5 rfl rfl)
theorem dX4_scale_32 : decode cX4_scale 32 = .ok (.aload_n 0, 1) := dk_42 (dk_at dksX4_scale_1 8 rfl rfl)
theorem dX4_scale_33 : decode cX4_scale 33 = .ok (.getfield 45, 3) := dk_180 0 45 (dk_at dksX4_scale_1 9 rfl rfl)
theorem dX4_scale_36 : decode cX4_scale 36 = .ok (.ifCond .le 5, 3) := dk_158 0 5 (dk_at dksX4_scale_1 12 rfl rfl)
theorem dX4_scale_39 : decode cX4_scale 39 = .ok (.iconst 0, 1) := dk_3 (dk_at dksX4_scale_1 15 rfl rfl)
theorem dX4_scale_40 : decode cX4_scale 40 = .ok (.ireturn, 1) := dk_172 (dk_at dksX4_scale_1 16 rfl rfl)
theorem dX4_scale_41 : decode cX4_scale 41 = .ok (.iconst 0, 1) := dk_3 (dk_at dksX4_scale_1 17 rfl rfl)
theorem dX4_scale_42 : decode cX4_scale 42 = .ok (.istore_n 2, 1) := dk_61 (dk_at dksX4_scale_1 18 rfl rfl)
theorem dX4_scale_43 : decode cX4_scale 43 = .ok (.iconst 0, 1) := dk_3 (dk_at dksX4_scale_1 19 rfl rfl)
theorem dX4_scale_44 : decode cX4_scale 44 = .ok (.istore_n 3, 1) := dk_62 (dk_at dksX4_scale_1 20 rfl rfl)
theorem dX4_scale_45 : decode cX4_scale 45 = .ok (.iload_n 3, 1) := dk_29 (dk_at dksX4_scale_1 21 rfl rfl)
theorem dX4_scale_46 : decode cX4_scale 46 = .ok (.aload_n 0, 1) := dk_42 (dk_at dksX4_scale_1 22 rfl rfl)
theorem dX4_scale_47 : decode cX4_scale 47 = .ok (.getfield 7, 3) := dk_180 0 7 (dk_at dksX4_scale_2 0 rfl rfl)
theorem dX4_scale_50 : decode cX4_scale 50 = .ok (.if_icmp .ge 50, 3) := dk_162 0 50 (dk_at dksX4_scale_2 3 rfl rfl)
theorem dX4_scale_53 : decode cX4_scale 53 = .ok (.aload_n 0, 1) := dk_42 (dk_at dksX4_scale_2 6 rfl rfl)
theorem dX4_scale_54 : decode cX4_scale 54 = .ok (.getfield 13, 3) := dk_180 0 13 (dk_at dksX4_scale_2 7 rfl rfl)
theorem dX4_scale_57 : decode cX4_scale 57 = .ok (.iload_n 3, 1) := dk_29 (dk_at dksX4_scale_2 10 rfl rfl)
theorem dX4_scale_58 : decode cX4_scale 58 = .ok (.aload_n 0, 1) := dk_42 (dk_at dksX4_scale_2 11 rfl rfl)
theorem dX4_scale_59 : decode cX4_scale 59 = .ok (.getfield 13, 3) := dk_180 0 13 (dk_at dksX4_scale_2 12 rfl rfl)
theorem dX4_scale_62 : decode cX4_scale 62 = .ok (.iload_n 3, 1) := dk_29 (dk_at dksX4_scale_2 15 rfl rfl)
theorem dX4_scale_63 : decode cX4_scale 63 = .ok (.iaload, 1) := dk_46 (dk_at dksX4_scale_2 16 rfl rfl)
theorem dX4_scale_64 : decode cX4_scale 64 = .ok (.iload_n 1, 1) := dk_27 (dk_at dksX4_scale_2 17 rfl rfl)
theorem dX4_scale_65 : decode cX4_scale 65 = .ok (.invokestatic 62, 3) := dk_184 0 62 (dk_at dksX4_scale_2 18 rfl rfl)
theorem dX4_scale_68 : decode cX4_scale 68 = .ok (.iastore, 1) := dk_79 (dk_at dksX4_scale_2 21 rfl rfl)
theorem dX4_scale_69 : decode cX4_scale 69 = .ok (.aload_n 0, 1) := dk_42 (dk_at dksX4_scale_2 22 rfl rfl)
theorem dX4_scale_70 : decode cX4_scale 70 = .ok (.getfield 17, 3) := dk_180 0 17 (dk_at dksX4_scale_3 0 rfl rfl)
theorem dX4_scale_73 : decode cX4_scale 73 = .ok (.iload_n 3, 1) := dk_29 (dk_at dksX4_scale_3 3 rfl rfl)
theorem dX4_scale_74 : decode cX4_scale 74 = .ok (.aload_n 0, 1) := dk_42 (dk_at dksX4_scale_3 4 rfl rfl)
theorem dX4_scale_75 : decode cX4_scale 75 = .ok (.getfield 17, 3) := dk_180 0 17 (dk_at dksX4_scale_3 5 rfl rfl)
theorem dX4_scale_78 : decode cX4_scale 78 = .ok (.iload_n 3, 1) := dk_29 (dk_at dksX4_scale_3 8 rfl rfl)
theorem dX4_scale_79 : decode cX4_scale 79 = .ok (.iaload, 1) := dk_46 (dk_at dksX4_scale_3 9 rfl rfl)
theorem dX4_scale_80 : decode cX4_scale 80 = .ok (.iload_n 1, 1) := dk_27 (dk_at dksX4_scale_3 10 rfl rfl)
theorem dX4_scale_81 : decode cX4_scale 81 = .ok (.invokestatic 62, 3) := dk_184 0 62 (dk_at dksX4_scale_3 11 rfl rfl)
theorem dX4_scale_84 : decode cX4_scale 84 = .ok (.iastore, 1) := dk_79 (dk_at dksX4_scale_3 14 rfl rfl)
theorem dX4_scale_85 : decode cX4_scale 85 = .ok (.iload_n 2, 1) := dk_28 (dk_at dksX4_scale_3 15 rfl rfl)
theorem dX4_scale_86 : decode cX4_scale 86 = .ok (.aload_n 0, 1) := dk_42 (dk_at dksX4_scale_3 16 rfl rfl)
theorem dX4_scale_87 : decode cX4_scale 87 = .ok (.getfield 13, 3) := dk_180 0 13 (dk_at dksX4_scale_3 17 rfl rfl)
theorem dX4_scale_90 : decode cX4_scale 90 = .ok (.iload_n 3, 1) := dk_29 (dk_at dksX4_scale_3 20 rfl rfl)
theorem dX4_scale_91 : decode cX4_scale 91 = .ok (.iaload, 1) := dk_46 (dk_at dksX4_scale_3 21 rfl rfl)
theorem dX4_scale_92 : decode cX4_scale 92 = .ok (.iadd, 1) := dk_96 (dk_at dksX4_scale_3 22 rfl rfl)
theorem dX4_scale_93 : decode cX4_scale 93 = .ok (.istore_n 2, 1) := dk_61 (dk_at dksX4_scale_3 23 rfl rfl)
theorem dX4_scale_94 : decode cX4_scale 94 = .ok (.iinc 3 1, 3) := dk_132 3 1 (dk_at dksX4_scale_4 0 rfl rfl)
theorem dX4_scale_97 : decode cX4_scale 97 = .ok (.goto (-52), 3) := dk_167 255 204 (dk_at dksX4_scale_4 3 rfl rfl)
theorem dX4_scale_100 : decode cX4_scale 100 = .ok (.aload_n 0, 1) := dk_42 (dk_at dksX4_scale_4 6 rfl rfl)
theorem dX4_scale_101 : decode cX4_scale 101 = .ok (.invokevirtual 55, 3) := dk_182 0 55 (dk_at dksX4_scale_4 7 rfl rfl)
theorem dX4_scale_104 : decode cX4_scale 104 = .ok (.iload_n 2, 1) := dk_28 (dk_at dksX4_scale_4 10 rfl rfl)
theorem dX4_scale_105 : decode cX4_scale 105 = .ok (.ireturn, 1) := dk_172 (dk_at dksX4_scale_4 11 rfl rfl)
abbrev cX4_isScalable : ByteArray := prog_11_method_13_code
def yX4_isScalable : MethodName := ⟨RX4, "isScalable", "(I)Z"⟩
def dkwX4_isScalable_2 : List UInt8 := [163, 0, 7, 4, 167, 0, 4, 3, 61, 132, 3, 1, 167, 255, 203, 28, 172]
abbrev dktX4_isScalable_2 : List UInt8 := dkwX4_isScalable_2 ++ []
def dkwX4_isScalable_1 : List UInt8 := [184, 0, 62, 17, 39, 15, 163, 0, 23, 42, 180, 0, 17, 29, 46, 27, 184, 0, 62, 17, 39, 15]
abbrev dktX4_isScalable_1 : List UInt8 := dkwX4_isScalable_1 ++ dktX4_isScalable_2
def dkwX4_isScalable_0 : List UInt8 := [4, 61, 3, 62, 29, 42, 180, 0, 7, 162, 0, 51, 28, 153, 0, 39, 42, 180, 0, 13, 29, 46, 27]
abbrev dktX4_isScalable_0 : List UInt8 := dkwX4_isScalable_0 ++ dktX4_isScalable_1
theorem dksX4_isScalable_0 : cX4_isScalable.data.toList.drop 0 = dktX4_isScalable_0 := by decide +kernel
theorem dksX4_isScalable_1 : cX4_isScalable.data.toList.drop 23 = dktX4_isScalable_1 := dk_seg dksX4_isScalable_0 23 rfl rfl
theorem dksX4_isScalable_2 : cX4_isScalable.data.toList.drop 45 = dktX4_isScalable_2 := dk_seg dksX4_isScalable_1 22 rfl rfl
theorem dX4_isScalable_0 : decode cX4_isScalable 0 = .ok (.iconst 1, 1) := dk_4 (dk_at dksX4_isScalable_0 0 rfl rfl)
theorem dX4_isScalable_1 : decode cX4_isScalable 1 = .ok (.istore_n 2, 1) := dk_61 (dk_at dksX4_isScalable_0 1 rfl rfl)
theorem dX4_isScalable_2 : decode cX4_isScalable 2 = .ok (.iconst 0, 1) := dk_3 (dk_at dksX4_isScalable_0 2 rfl rfl)
theorem dX4_isScalable_3 : decode cX4_isScalable 3 = .ok (.istore_n 3, 1) := dk_62 (dk_at dksX4_isScalable_0 3 rfl rfl)
theorem dX4_isScalable_4 : decode cX4_isScalable 4 = .ok (.iload_n 3, 1) := dk_29 (dk_at dksX4_isScalable_0 4 rfl rfl)
theorem dX4_isScalable_5 : decode cX4_isScalable 5 = .ok (.aload_n 0, 1) := dk_42 (dk_at dksX4_isScalable_0 5 rfl rfl)
theorem dX4_isScalable_6 : decode cX4_isScalable 6 = .ok (.getfield 7, 3) := dk_180 0 7 (dk_at dksX4_isScalable_0 6 rfl rfl)
theorem dX4_isScalable_9 : decode cX4_isScalable 9 = .ok (.if_icmp .ge 51, 3) := dk_162 0 51 (dk_at dksX4_isScalable_0 9 rfl rfl)
theorem dX4_isScalable_12 : decode cX4_isScalable 12 = .ok (.iload_n 2, 1) := dk_28 (dk_at dksX4_isScalable_0 12 rfl rfl)
theorem dX4_isScalable_13 : decode cX4_isScalable 13 = .ok (.ifCond .eq 39, 3) := dk_153 0 39 (dk_at dksX4_isScalable_0 13 rfl rfl)
theorem dX4_isScalable_16 : decode cX4_isScalable 16 = .ok (.aload_n 0, 1) := dk_42 (dk_at dksX4_isScalable_0 16 rfl rfl)
theorem dX4_isScalable_17 : decode cX4_isScalable 17 = .ok (.getfield 13, 3) := dk_180 0 13 (dk_at dksX4_isScalable_0 17 rfl rfl)
theorem dX4_isScalable_20 : decode cX4_isScalable 20 = .ok (.iload_n 3, 1) := dk_29 (dk_at dksX4_isScalable_0 20 rfl rfl)
theorem dX4_isScalable_21 : decode cX4_isScalable 21 = .ok (.iaload, 1) := dk_46 (dk_at dksX4_isScalable_0 21 rfl rfl)
theorem dX4_isScalable_22 : decode cX4_isScalable 22 = .ok (.iload_n 1, 1) := dk_27 (dk_at dksX4_isScalable_0 22 rfl rfl)
theorem dX4_isScalable_23 : decode cX4_isScalable 23 = .ok (.invokestatic 62, 3) := dk_184 0 62 (dk_at dksX4_isScalable_1 0 rfl rfl)
theorem dX4_isScalable_26 : decode cX4_isScalable 26 = .ok (.sipush 9999, 3) := dk_17 39 15 (dk_at dksX4_isScalable_1 3 rfl rfl)
theorem dX4_isScalable_29 : decode cX4_isScalable 29 = .ok (.if_icmp .gt 23, 3) := dk_163 0 23 (dk_at dksX4_isScalable_1 6 rfl rfl)
theorem dX4_isScalable_32 : decode cX4_isScalable 32 = .ok (.aload_n 0, 1) := dk_42 (dk_at dksX4_isScalable_1 9 rfl rfl)
theorem dX4_isScalable_33 : decode cX4_isScalable 33 = .ok (.getfield 17, 3) := dk_180 0 17 (dk_at dksX4_isScalable_1 10 rfl rfl)
theorem dX4_isScalable_36 : decode cX4_isScalable 36 = .ok (.iload_n 3, 1) := dk_29 (dk_at dksX4_isScalable_1 13 rfl rfl)
theorem dX4_isScalable_37 : decode cX4_isScalable 37 = .ok (.iaload, 1) := dk_46 (dk_at dksX4_isScalable_1 14 rfl rfl)
theorem dX4_isScalable_38 : decode cX4_isScalable 38 = .ok (.iload_n 1, 1) := dk_27 (dk_at dksX4_isScalable_1 15 rfl rfl)
theorem dX4_isScalable_39 : decode cX4_isScalable 39 = .ok (.invokestatic 62, 3) := dk_184 0 62 (dk_at dksX4_isScalable_1 16 rfl rfl)
theorem dX4_isScalable_42 : decode cX4_isScalable 42 = .ok (.sipush 9999, 3) := dk_17 39 15 (dk_at dksX4_isScalable_1 19 rfl rfl)
theorem dX4_isScalable_45 : decode cX4_isScalable 45 = .ok (.if_icmp .gt 7, 3) := dk_163 0 7 (dk_at dksX4_isScalable_2 0 rfl rfl)
theorem dX4_isScalable_48 : decode cX4_isScalable 48 = .ok (.iconst 1, 1) := dk_4 (dk_at dksX4_isScalable_2 3 rfl rfl)
theorem dX4_isScalable_49 : decode cX4_isScalable 49 = .ok (.goto 4, 3) := dk_167 0 4 (dk_at dksX4_isScalable_2 4 rfl rfl)
theorem dX4_isScalable_52 : decode cX4_isScalable 52 = .ok (.iconst 0, 1) := dk_3 (dk_at dksX4_isScalable_2 7 rfl rfl)
theorem dX4_isScalable_53 : decode cX4_isScalable 53 = .ok (.istore_n 2, 1) := dk_61 (dk_at dksX4_isScalable_2 8 rfl rfl)
theorem dX4_isScalable_54 : decode cX4_isScalable 54 = .ok (.iinc 3 1, 3) := dk_132 3 1 (dk_at dksX4_isScalable_2 9 rfl rfl)
theorem dX4_isScalable_57 : decode cX4_isScalable 57 = .ok (.goto (-53), 3) := dk_167 255 203 (dk_at dksX4_isScalable_2 12 rfl rfl)
theorem dX4_isScalable_60 : decode cX4_isScalable 60 = .ok (.iload_n 2, 1) := dk_28 (dk_at dksX4_isScalable_2 15 rfl rfl)
theorem dX4_isScalable_61 : decode cX4_isScalable 61 = .ok (.ireturn, 1) := dk_172 (dk_at dksX4_isScalable_2 16 rfl rfl)
abbrev cX4_scaled : ByteArray := prog_11_method_12_code
def yX4_scaled : MethodName := ⟨RX4, "scaled", "(II)I"⟩
def dkwX4_scaled_0 : List UInt8 := [26, 27, 104, 16, 50, 96, 16, 100, 108, 172]
abbrev dktX4_scaled_0 : List UInt8 := dkwX4_scaled_0 ++ []
theorem dksX4_scaled_0 : cX4_scaled.data.toList.drop 0 = dktX4_scaled_0 := by decide +kernel
theorem dX4_scaled_0 : decode cX4_scaled 0 = .ok (.iload_n 0, 1) := dk_26 (dk_at dksX4_scaled_0 0 rfl rfl)
theorem dX4_scaled_1 : decode cX4_scaled 1 = .ok (.iload_n 1, 1) := dk_27 (dk_at dksX4_scaled_0 1 rfl rfl)
theorem dX4_scaled_2 : decode cX4_scaled 2 = .ok (.imul, 1) := dk_104 (dk_at dksX4_scaled_0 2 rfl rfl)
theorem dX4_scaled_3 : decode cX4_scaled 3 = .ok (.bipush 50, 2) := dk_16 50 (dk_at dksX4_scaled_0 3 rfl rfl)
theorem dX4_scaled_5 : decode cX4_scaled 5 = .ok (.iadd, 1) := dk_96 (dk_at dksX4_scaled_0 5 rfl rfl)
theorem dX4_scaled_6 : decode cX4_scaled 6 = .ok (.bipush 100, 2) := dk_16 100 (dk_at dksX4_scaled_0 6 rfl rfl)
theorem dX4_scaled_8 : decode cX4_scaled 8 = .ok (.idiv, 1) := dk_108 (dk_at dksX4_scaled_0 8 rfl rfl)
theorem dX4_scaled_9 : decode cX4_scaled 9 = .ok (.ireturn, 1) := dk_172 (dk_at dksX4_scaled_0 9 rfl rfl)
abbrev cX4_imbalance : ByteArray := prog_11_method_16_code
def yX4_imbalance : MethodName := ⟨RX4, "imbalance", "()I"⟩
def dkwX4_imbalance_0 : List UInt8 := [42, 3, 181, 0, 45, 42, 182, 0, 69, 172]
abbrev dktX4_imbalance_0 : List UInt8 := dkwX4_imbalance_0 ++ []
theorem dksX4_imbalance_0 : cX4_imbalance.data.toList.drop 0 = dktX4_imbalance_0 := by decide +kernel
theorem dX4_imbalance_0 : decode cX4_imbalance 0 = .ok (.aload_n 0, 1) := dk_42 (dk_at dksX4_imbalance_0 0 rfl rfl)
theorem dX4_imbalance_1 : decode cX4_imbalance 1 = .ok (.iconst 0, 1) := dk_3 (dk_at dksX4_imbalance_0 1 rfl rfl)
theorem dX4_imbalance_2 : decode cX4_imbalance 2 = .ok (.putfield 45, 3) := dk_181 0 45 (dk_at dksX4_imbalance_0 2 rfl rfl)
theorem dX4_imbalance_5 : decode cX4_imbalance 5 = .ok (.aload_n 0, 1) := dk_42 (dk_at dksX4_imbalance_0 5 rfl rfl)
theorem dX4_imbalance_6 : decode cX4_imbalance 6 = .ok (.invokevirtual 69, 3) := dk_182 0 69 (dk_at dksX4_imbalance_0 6 rfl rfl)
theorem dX4_imbalance_9 : decode cX4_imbalance 9 = .ok (.ireturn, 1) := dk_172 (dk_at dksX4_imbalance_0 9 rfl rfl)
abbrev cX4_difference : ByteArray := prog_11_method_15_code
def yX4_difference : MethodName := ⟨RX4, "difference", "()I"⟩
def dkwX4_difference_1 : List UInt8 := [46, 100, 96, 60, 132, 2, 1, 167, 255, 229, 27, 172]
abbrev dktX4_difference_1 : List UInt8 := dkwX4_difference_1 ++ []
def dkwX4_difference_0 : List UInt8 := [3, 60, 3, 61, 28, 42, 180, 0, 7, 162, 0, 25, 27, 42, 180, 0, 13, 28, 46, 42, 180, 0, 17, 28]
abbrev dktX4_difference_0 : List UInt8 := dkwX4_difference_0 ++ dktX4_difference_1
theorem dksX4_difference_0 : cX4_difference.data.toList.drop 0 = dktX4_difference_0 := by decide +kernel
theorem dksX4_difference_1 : cX4_difference.data.toList.drop 24 = dktX4_difference_1 := dk_seg dksX4_difference_0 24 rfl rfl
theorem dX4_difference_0 : decode cX4_difference 0 = .ok (.iconst 0, 1) := dk_3 (dk_at dksX4_difference_0 0 rfl rfl)
theorem dX4_difference_1 : decode cX4_difference 1 = .ok (.istore_n 1, 1) := dk_60 (dk_at dksX4_difference_0 1 rfl rfl)
theorem dX4_difference_2 : decode cX4_difference 2 = .ok (.iconst 0, 1) := dk_3 (dk_at dksX4_difference_0 2 rfl rfl)
theorem dX4_difference_3 : decode cX4_difference 3 = .ok (.istore_n 2, 1) := dk_61 (dk_at dksX4_difference_0 3 rfl rfl)
theorem dX4_difference_4 : decode cX4_difference 4 = .ok (.iload_n 2, 1) := dk_28 (dk_at dksX4_difference_0 4 rfl rfl)
theorem dX4_difference_5 : decode cX4_difference 5 = .ok (.aload_n 0, 1) := dk_42 (dk_at dksX4_difference_0 5 rfl rfl)
theorem dX4_difference_6 : decode cX4_difference 6 = .ok (.getfield 7, 3) := dk_180 0 7 (dk_at dksX4_difference_0 6 rfl rfl)
theorem dX4_difference_9 : decode cX4_difference 9 = .ok (.if_icmp .ge 25, 3) := dk_162 0 25 (dk_at dksX4_difference_0 9 rfl rfl)
theorem dX4_difference_12 : decode cX4_difference 12 = .ok (.iload_n 1, 1) := dk_27 (dk_at dksX4_difference_0 12 rfl rfl)
theorem dX4_difference_13 : decode cX4_difference 13 = .ok (.aload_n 0, 1) := dk_42 (dk_at dksX4_difference_0 13 rfl rfl)
theorem dX4_difference_14 : decode cX4_difference 14 = .ok (.getfield 13, 3) := dk_180 0 13 (dk_at dksX4_difference_0 14 rfl rfl)
theorem dX4_difference_17 : decode cX4_difference 17 = .ok (.iload_n 2, 1) := dk_28 (dk_at dksX4_difference_0 17 rfl rfl)
theorem dX4_difference_18 : decode cX4_difference 18 = .ok (.iaload, 1) := dk_46 (dk_at dksX4_difference_0 18 rfl rfl)
theorem dX4_difference_19 : decode cX4_difference 19 = .ok (.aload_n 0, 1) := dk_42 (dk_at dksX4_difference_0 19 rfl rfl)
theorem dX4_difference_20 : decode cX4_difference 20 = .ok (.getfield 17, 3) := dk_180 0 17 (dk_at dksX4_difference_0 20 rfl rfl)
theorem dX4_difference_23 : decode cX4_difference 23 = .ok (.iload_n 2, 1) := dk_28 (dk_at dksX4_difference_0 23 rfl rfl)
theorem dX4_difference_24 : decode cX4_difference 24 = .ok (.iaload, 1) := dk_46 (dk_at dksX4_difference_1 0 rfl rfl)
theorem dX4_difference_25 : decode cX4_difference 25 = .ok (.isub, 1) := dk_100 (dk_at dksX4_difference_1 1 rfl rfl)
theorem dX4_difference_26 : decode cX4_difference 26 = .ok (.iadd, 1) := dk_96 (dk_at dksX4_difference_1 2 rfl rfl)
theorem dX4_difference_27 : decode cX4_difference 27 = .ok (.istore_n 1, 1) := dk_60 (dk_at dksX4_difference_1 3 rfl rfl)
theorem dX4_difference_28 : decode cX4_difference 28 = .ok (.iinc 2 1, 3) := dk_132 2 1 (dk_at dksX4_difference_1 4 rfl rfl)
theorem dX4_difference_31 : decode cX4_difference 31 = .ok (.goto (-27), 3) := dk_167 255 229 (dk_at dksX4_difference_1 7 rfl rfl)
theorem dX4_difference_34 : decode cX4_difference 34 = .ok (.iload_n 1, 1) := dk_27 (dk_at dksX4_difference_1 10 rfl rfl)
theorem dX4_difference_35 : decode cX4_difference 35 = .ok (.ireturn, 1) := dk_172 (dk_at dksX4_difference_1 11 rfl rfl)
abbrev cX4_isPossible : ByteArray := prog_11_method_20_code
def yX4_isPossible : MethodName := ⟨RX4, "isPossible", "()Z"⟩
def dkwX4_isPossible_0 : List UInt8 := [42, 3, 181, 0, 45, 42, 182, 0, 80, 172]
abbrev dktX4_isPossible_0 : List UInt8 := dkwX4_isPossible_0 ++ []
theorem dksX4_isPossible_0 : cX4_isPossible.data.toList.drop 0 = dktX4_isPossible_0 := by decide +kernel
theorem dX4_isPossible_0 : decode cX4_isPossible 0 = .ok (.aload_n 0, 1) := dk_42 (dk_at dksX4_isPossible_0 0 rfl rfl)
theorem dX4_isPossible_1 : decode cX4_isPossible 1 = .ok (.iconst 0, 1) := dk_3 (dk_at dksX4_isPossible_0 1 rfl rfl)
theorem dX4_isPossible_2 : decode cX4_isPossible 2 = .ok (.putfield 45, 3) := dk_181 0 45 (dk_at dksX4_isPossible_0 2 rfl rfl)
theorem dX4_isPossible_5 : decode cX4_isPossible 5 = .ok (.aload_n 0, 1) := dk_42 (dk_at dksX4_isPossible_0 5 rfl rfl)
theorem dX4_isPossible_6 : decode cX4_isPossible 6 = .ok (.invokevirtual 80, 3) := dk_182 0 80 (dk_at dksX4_isPossible_0 6 rfl rfl)
theorem dX4_isPossible_9 : decode cX4_isPossible 9 = .ok (.ireturn, 1) := dk_172 (dk_at dksX4_isPossible_0 9 rfl rfl)
abbrev cX4_arePossible : ByteArray := prog_11_method_19_code
def yX4_arePossible : MethodName := ⟨RX4, "arePossible", "()Z"⟩
def dkwX4_arePossible_0 : List UInt8 := [42, 182, 0, 69, 154, 0, 15, 42, 182, 0, 77, 2, 160, 0, 7, 4, 167, 0, 4, 3, 172]
abbrev dktX4_arePossible_0 : List UInt8 := dkwX4_arePossible_0 ++ []
theorem dksX4_arePossible_0 : cX4_arePossible.data.toList.drop 0 = dktX4_arePossible_0 := by decide +kernel
theorem dX4_arePossible_0 : decode cX4_arePossible 0 = .ok (.aload_n 0, 1) := dk_42 (dk_at dksX4_arePossible_0 0 rfl rfl)
theorem dX4_arePossible_1 : decode cX4_arePossible 1 = .ok (.invokevirtual 69, 3) := dk_182 0 69 (dk_at dksX4_arePossible_0 1 rfl rfl)
theorem dX4_arePossible_4 : decode cX4_arePossible 4 = .ok (.ifCond .ne 15, 3) := dk_154 0 15 (dk_at dksX4_arePossible_0 4 rfl rfl)
theorem dX4_arePossible_7 : decode cX4_arePossible 7 = .ok (.aload_n 0, 1) := dk_42 (dk_at dksX4_arePossible_0 7 rfl rfl)
theorem dX4_arePossible_8 : decode cX4_arePossible 8 = .ok (.invokevirtual 77, 3) := dk_182 0 77 (dk_at dksX4_arePossible_0 8 rfl rfl)
theorem dX4_arePossible_11 : decode cX4_arePossible 11 = .ok (.iconst (-1), 1) := dk_2 (dk_at dksX4_arePossible_0 11 rfl rfl)
theorem dX4_arePossible_12 : decode cX4_arePossible 12 = .ok (.if_icmp .ne 7, 3) := dk_160 0 7 (dk_at dksX4_arePossible_0 12 rfl rfl)
theorem dX4_arePossible_15 : decode cX4_arePossible 15 = .ok (.iconst 1, 1) := dk_4 (dk_at dksX4_arePossible_0 15 rfl rfl)
theorem dX4_arePossible_16 : decode cX4_arePossible 16 = .ok (.goto 4, 3) := dk_167 0 4 (dk_at dksX4_arePossible_0 16 rfl rfl)
theorem dX4_arePossible_19 : decode cX4_arePossible 19 = .ok (.iconst 0, 1) := dk_3 (dk_at dksX4_arePossible_0 19 rfl rfl)
theorem dX4_arePossible_20 : decode cX4_arePossible 20 = .ok (.ireturn, 1) := dk_172 (dk_at dksX4_arePossible_0 20 rfl rfl)
abbrev cX4_crowded : ByteArray := prog_11_method_18_code
def yX4_crowded : MethodName := ⟨RX4, "crowded", "()I"⟩
def dkwX4_crowded_1 : List UInt8 := [132, 1, 1, 167, 255, 233, 2, 172]
abbrev dktX4_crowded_1 : List UInt8 := dkwX4_crowded_1 ++ []
def dkwX4_crowded_0 : List UInt8 := [4, 60, 27, 4, 42, 180, 0, 7, 120, 162, 0, 19, 42, 27, 182, 0, 73, 158, 0, 5, 27, 172]
abbrev dktX4_crowded_0 : List UInt8 := dkwX4_crowded_0 ++ dktX4_crowded_1
theorem dksX4_crowded_0 : cX4_crowded.data.toList.drop 0 = dktX4_crowded_0 := by decide +kernel
theorem dksX4_crowded_1 : cX4_crowded.data.toList.drop 22 = dktX4_crowded_1 := dk_seg dksX4_crowded_0 22 rfl rfl
theorem dX4_crowded_0 : decode cX4_crowded 0 = .ok (.iconst 1, 1) := dk_4 (dk_at dksX4_crowded_0 0 rfl rfl)
theorem dX4_crowded_1 : decode cX4_crowded 1 = .ok (.istore_n 1, 1) := dk_60 (dk_at dksX4_crowded_0 1 rfl rfl)
theorem dX4_crowded_2 : decode cX4_crowded 2 = .ok (.iload_n 1, 1) := dk_27 (dk_at dksX4_crowded_0 2 rfl rfl)
theorem dX4_crowded_3 : decode cX4_crowded 3 = .ok (.iconst 1, 1) := dk_4 (dk_at dksX4_crowded_0 3 rfl rfl)
theorem dX4_crowded_4 : decode cX4_crowded 4 = .ok (.aload_n 0, 1) := dk_42 (dk_at dksX4_crowded_0 4 rfl rfl)
theorem dX4_crowded_5 : decode cX4_crowded 5 = .ok (.getfield 7, 3) := dk_180 0 7 (dk_at dksX4_crowded_0 5 rfl rfl)
theorem dX4_crowded_8 : decode cX4_crowded 8 = .ok (.ishl, 1) := dk_120 (dk_at dksX4_crowded_0 8 rfl rfl)
theorem dX4_crowded_9 : decode cX4_crowded 9 = .ok (.if_icmp .ge 19, 3) := dk_162 0 19 (dk_at dksX4_crowded_0 9 rfl rfl)
theorem dX4_crowded_12 : decode cX4_crowded 12 = .ok (.aload_n 0, 1) := dk_42 (dk_at dksX4_crowded_0 12 rfl rfl)
theorem dX4_crowded_13 : decode cX4_crowded 13 = .ok (.iload_n 1, 1) := dk_27 (dk_at dksX4_crowded_0 13 rfl rfl)
theorem dX4_crowded_14 : decode cX4_crowded 14 = .ok (.invokevirtual 73, 3) := dk_182 0 73 (dk_at dksX4_crowded_0 14 rfl rfl)
theorem dX4_crowded_17 : decode cX4_crowded 17 = .ok (.ifCond .le 5, 3) := dk_158 0 5 (dk_at dksX4_crowded_0 17 rfl rfl)
theorem dX4_crowded_20 : decode cX4_crowded 20 = .ok (.iload_n 1, 1) := dk_27 (dk_at dksX4_crowded_0 20 rfl rfl)
theorem dX4_crowded_21 : decode cX4_crowded 21 = .ok (.ireturn, 1) := dk_172 (dk_at dksX4_crowded_0 21 rfl rfl)
theorem dX4_crowded_22 : decode cX4_crowded 22 = .ok (.iinc 1 1, 3) := dk_132 1 1 (dk_at dksX4_crowded_1 0 rfl rfl)
theorem dX4_crowded_25 : decode cX4_crowded 25 = .ok (.goto (-23), 3) := dk_167 255 233 (dk_at dksX4_crowded_1 3 rfl rfl)
theorem dX4_crowded_28 : decode cX4_crowded 28 = .ok (.iconst (-1), 1) := dk_2 (dk_at dksX4_crowded_1 6 rfl rfl)
theorem dX4_crowded_29 : decode cX4_crowded 29 = .ok (.ireturn, 1) := dk_172 (dk_at dksX4_crowded_1 7 rfl rfl)
abbrev cX4_excessOf : ByteArray := prog_11_method_17_code
def yX4_excessOf : MethodName := ⟨RX4, "excessOf", "(I)I"⟩
def dkwX4_excessOf_4 : List UInt8 := [153, 0, 12, 42, 180, 0, 17, 29, 46, 167, 0, 4, 3, 100, 61, 132, 3, 1, 167, 255, 147, 28, 172]
abbrev dktX4_excessOf_4 : List UInt8 := dkwX4_excessOf_4 ++ []
def dkwX4_excessOf_3 : List UInt8 := [29, 122, 4, 126, 4, 160, 0, 12, 42, 180, 0, 13, 29, 46, 167, 0, 4, 3, 96, 61, 28, 21, 4]
abbrev dktX4_excessOf_3 : List UInt8 := dkwX4_excessOf_3 ++ dktX4_excessOf_4
def dkwX4_excessOf_2 : List UInt8 := [21, 5, 104, 29, 96, 46, 158, 0, 7, 4, 167, 0, 4, 3, 54, 4, 132, 5, 1, 167, 255, 207, 28, 27]
abbrev dktX4_excessOf_2 : List UInt8 := dkwX4_excessOf_2 ++ dktX4_excessOf_3
def dkwX4_excessOf_1 : List UInt8 := [162, 0, 46, 21, 4, 154, 0, 28, 27, 21, 5, 122, 4, 126, 4, 160, 0, 22, 42, 180, 0, 20, 16, 6]
abbrev dktX4_excessOf_1 : List UInt8 := dkwX4_excessOf_1 ++ dktX4_excessOf_2
def dkwX4_excessOf_0 : List UInt8 := [3, 61, 3, 62, 29, 42, 180, 0, 7, 162, 0, 107, 3, 54, 4, 3, 54, 5, 21, 5, 42, 180, 0, 7]
abbrev dktX4_excessOf_0 : List UInt8 := dkwX4_excessOf_0 ++ dktX4_excessOf_1
theorem dksX4_excessOf_0 : cX4_excessOf.data.toList.drop 0 = dktX4_excessOf_0 := by decide +kernel
theorem dksX4_excessOf_1 : cX4_excessOf.data.toList.drop 24 = dktX4_excessOf_1 := dk_seg dksX4_excessOf_0 24 rfl rfl
theorem dksX4_excessOf_2 : cX4_excessOf.data.toList.drop 48 = dktX4_excessOf_2 := dk_seg dksX4_excessOf_1 24 rfl rfl
theorem dksX4_excessOf_3 : cX4_excessOf.data.toList.drop 72 = dktX4_excessOf_3 := dk_seg dksX4_excessOf_2 24 rfl rfl
theorem dksX4_excessOf_4 : cX4_excessOf.data.toList.drop 95 = dktX4_excessOf_4 := dk_seg dksX4_excessOf_3 23 rfl rfl
theorem dX4_excessOf_0 : decode cX4_excessOf 0 = .ok (.iconst 0, 1) := dk_3 (dk_at dksX4_excessOf_0 0 rfl rfl)
theorem dX4_excessOf_1 : decode cX4_excessOf 1 = .ok (.istore_n 2, 1) := dk_61 (dk_at dksX4_excessOf_0 1 rfl rfl)
theorem dX4_excessOf_2 : decode cX4_excessOf 2 = .ok (.iconst 0, 1) := dk_3 (dk_at dksX4_excessOf_0 2 rfl rfl)
theorem dX4_excessOf_3 : decode cX4_excessOf 3 = .ok (.istore_n 3, 1) := dk_62 (dk_at dksX4_excessOf_0 3 rfl rfl)
theorem dX4_excessOf_4 : decode cX4_excessOf 4 = .ok (.iload_n 3, 1) := dk_29 (dk_at dksX4_excessOf_0 4 rfl rfl)
theorem dX4_excessOf_5 : decode cX4_excessOf 5 = .ok (.aload_n 0, 1) := dk_42 (dk_at dksX4_excessOf_0 5 rfl rfl)
theorem dX4_excessOf_6 : decode cX4_excessOf 6 = .ok (.getfield 7, 3) := dk_180 0 7 (dk_at dksX4_excessOf_0 6 rfl rfl)
theorem dX4_excessOf_9 : decode cX4_excessOf 9 = .ok (.if_icmp .ge 107, 3) := dk_162 0 107 (dk_at dksX4_excessOf_0 9 rfl rfl)
theorem dX4_excessOf_12 : decode cX4_excessOf 12 = .ok (.iconst 0, 1) := dk_3 (dk_at dksX4_excessOf_0 12 rfl rfl)
theorem dX4_excessOf_13 : decode cX4_excessOf 13 = .ok (.istore 4, 2) := dk_54 4 (dk_at dksX4_excessOf_0 13 rfl rfl)
theorem dX4_excessOf_15 : decode cX4_excessOf 15 = .ok (.iconst 0, 1) := dk_3 (dk_at dksX4_excessOf_0 15 rfl rfl)
theorem dX4_excessOf_16 : decode cX4_excessOf 16 = .ok (.istore 5, 2) := dk_54 5 (dk_at dksX4_excessOf_0 16 rfl rfl)
theorem dX4_excessOf_18 : decode cX4_excessOf 18 = .ok (.iload 5, 2) := dk_21 5 (dk_at dksX4_excessOf_0 18 rfl rfl)
theorem dX4_excessOf_20 : decode cX4_excessOf 20 = .ok (.aload_n 0, 1) := dk_42 (dk_at dksX4_excessOf_0 20 rfl rfl)
theorem dX4_excessOf_21 : decode cX4_excessOf 21 = .ok (.getfield 7, 3) := dk_180 0 7 (dk_at dksX4_excessOf_0 21 rfl rfl)
theorem dX4_excessOf_24 : decode cX4_excessOf 24 = .ok (.if_icmp .ge 46, 3) := dk_162 0 46 (dk_at dksX4_excessOf_1 0 rfl rfl)
theorem dX4_excessOf_27 : decode cX4_excessOf 27 = .ok (.iload 4, 2) := dk_21 4 (dk_at dksX4_excessOf_1 3 rfl rfl)
theorem dX4_excessOf_29 : decode cX4_excessOf 29 = .ok (.ifCond .ne 28, 3) := dk_154 0 28 (dk_at dksX4_excessOf_1 5 rfl rfl)
theorem dX4_excessOf_32 : decode cX4_excessOf 32 = .ok (.iload_n 1, 1) := dk_27 (dk_at dksX4_excessOf_1 8 rfl rfl)
theorem dX4_excessOf_33 : decode cX4_excessOf 33 = .ok (.iload 5, 2) := dk_21 5 (dk_at dksX4_excessOf_1 9 rfl rfl)
theorem dX4_excessOf_35 : decode cX4_excessOf 35 = .ok (.ishr, 1) := dk_122 (dk_at dksX4_excessOf_1 11 rfl rfl)
theorem dX4_excessOf_36 : decode cX4_excessOf 36 = .ok (.iconst 1, 1) := dk_4 (dk_at dksX4_excessOf_1 12 rfl rfl)
theorem dX4_excessOf_37 : decode cX4_excessOf 37 = .ok (.iand, 1) := dk_126 (dk_at dksX4_excessOf_1 13 rfl rfl)
theorem dX4_excessOf_38 : decode cX4_excessOf 38 = .ok (.iconst 1, 1) := dk_4 (dk_at dksX4_excessOf_1 14 rfl rfl)
theorem dX4_excessOf_39 : decode cX4_excessOf 39 = .ok (.if_icmp .ne 22, 3) := dk_160 0 22 (dk_at dksX4_excessOf_1 15 rfl rfl)
theorem dX4_excessOf_42 : decode cX4_excessOf 42 = .ok (.aload_n 0, 1) := dk_42 (dk_at dksX4_excessOf_1 18 rfl rfl)
theorem dX4_excessOf_43 : decode cX4_excessOf 43 = .ok (.getfield 20, 3) := dk_180 0 20 (dk_at dksX4_excessOf_1 19 rfl rfl)
theorem dX4_excessOf_46 : decode cX4_excessOf 46 = .ok (.bipush 6, 2) := dk_16 6 (dk_at dksX4_excessOf_1 22 rfl rfl)
theorem dX4_excessOf_48 : decode cX4_excessOf 48 = .ok (.iload 5, 2) := dk_21 5 (dk_at dksX4_excessOf_2 0 rfl rfl)
theorem dX4_excessOf_50 : decode cX4_excessOf 50 = .ok (.imul, 1) := dk_104 (dk_at dksX4_excessOf_2 2 rfl rfl)
theorem dX4_excessOf_51 : decode cX4_excessOf 51 = .ok (.iload_n 3, 1) := dk_29 (dk_at dksX4_excessOf_2 3 rfl rfl)
theorem dX4_excessOf_52 : decode cX4_excessOf 52 = .ok (.iadd, 1) := dk_96 (dk_at dksX4_excessOf_2 4 rfl rfl)
theorem dX4_excessOf_53 : decode cX4_excessOf 53 = .ok (.iaload, 1) := dk_46 (dk_at dksX4_excessOf_2 5 rfl rfl)
theorem dX4_excessOf_54 : decode cX4_excessOf 54 = .ok (.ifCond .le 7, 3) := dk_158 0 7 (dk_at dksX4_excessOf_2 6 rfl rfl)
theorem dX4_excessOf_57 : decode cX4_excessOf 57 = .ok (.iconst 1, 1) := dk_4 (dk_at dksX4_excessOf_2 9 rfl rfl)
theorem dX4_excessOf_58 : decode cX4_excessOf 58 = .ok (.goto 4, 3) := dk_167 0 4 (dk_at dksX4_excessOf_2 10 rfl rfl)
theorem dX4_excessOf_61 : decode cX4_excessOf 61 = .ok (.iconst 0, 1) := dk_3 (dk_at dksX4_excessOf_2 13 rfl rfl)
theorem dX4_excessOf_62 : decode cX4_excessOf 62 = .ok (.istore 4, 2) := dk_54 4 (dk_at dksX4_excessOf_2 14 rfl rfl)
theorem dX4_excessOf_64 : decode cX4_excessOf 64 = .ok (.iinc 5 1, 3) := dk_132 5 1 (dk_at dksX4_excessOf_2 16 rfl rfl)
theorem dX4_excessOf_67 : decode cX4_excessOf 67 = .ok (.goto (-49), 3) := dk_167 255 207 (dk_at dksX4_excessOf_2 19 rfl rfl)
theorem dX4_excessOf_70 : decode cX4_excessOf 70 = .ok (.iload_n 2, 1) := dk_28 (dk_at dksX4_excessOf_2 22 rfl rfl)
theorem dX4_excessOf_71 : decode cX4_excessOf 71 = .ok (.iload_n 1, 1) := dk_27 (dk_at dksX4_excessOf_2 23 rfl rfl)
theorem dX4_excessOf_72 : decode cX4_excessOf 72 = .ok (.iload_n 3, 1) := dk_29 (dk_at dksX4_excessOf_3 0 rfl rfl)
theorem dX4_excessOf_73 : decode cX4_excessOf 73 = .ok (.ishr, 1) := dk_122 (dk_at dksX4_excessOf_3 1 rfl rfl)
theorem dX4_excessOf_74 : decode cX4_excessOf 74 = .ok (.iconst 1, 1) := dk_4 (dk_at dksX4_excessOf_3 2 rfl rfl)
theorem dX4_excessOf_75 : decode cX4_excessOf 75 = .ok (.iand, 1) := dk_126 (dk_at dksX4_excessOf_3 3 rfl rfl)
theorem dX4_excessOf_76 : decode cX4_excessOf 76 = .ok (.iconst 1, 1) := dk_4 (dk_at dksX4_excessOf_3 4 rfl rfl)
theorem dX4_excessOf_77 : decode cX4_excessOf 77 = .ok (.if_icmp .ne 12, 3) := dk_160 0 12 (dk_at dksX4_excessOf_3 5 rfl rfl)
theorem dX4_excessOf_80 : decode cX4_excessOf 80 = .ok (.aload_n 0, 1) := dk_42 (dk_at dksX4_excessOf_3 8 rfl rfl)
theorem dX4_excessOf_81 : decode cX4_excessOf 81 = .ok (.getfield 13, 3) := dk_180 0 13 (dk_at dksX4_excessOf_3 9 rfl rfl)
theorem dX4_excessOf_84 : decode cX4_excessOf 84 = .ok (.iload_n 3, 1) := dk_29 (dk_at dksX4_excessOf_3 12 rfl rfl)
theorem dX4_excessOf_85 : decode cX4_excessOf 85 = .ok (.iaload, 1) := dk_46 (dk_at dksX4_excessOf_3 13 rfl rfl)
theorem dX4_excessOf_86 : decode cX4_excessOf 86 = .ok (.goto 4, 3) := dk_167 0 4 (dk_at dksX4_excessOf_3 14 rfl rfl)
theorem dX4_excessOf_89 : decode cX4_excessOf 89 = .ok (.iconst 0, 1) := dk_3 (dk_at dksX4_excessOf_3 17 rfl rfl)
theorem dX4_excessOf_90 : decode cX4_excessOf 90 = .ok (.iadd, 1) := dk_96 (dk_at dksX4_excessOf_3 18 rfl rfl)
theorem dX4_excessOf_91 : decode cX4_excessOf 91 = .ok (.istore_n 2, 1) := dk_61 (dk_at dksX4_excessOf_3 19 rfl rfl)
theorem dX4_excessOf_92 : decode cX4_excessOf 92 = .ok (.iload_n 2, 1) := dk_28 (dk_at dksX4_excessOf_3 20 rfl rfl)
theorem dX4_excessOf_93 : decode cX4_excessOf 93 = .ok (.iload 4, 2) := dk_21 4 (dk_at dksX4_excessOf_3 21 rfl rfl)
theorem dX4_excessOf_95 : decode cX4_excessOf 95 = .ok (.ifCond .eq 12, 3) := dk_153 0 12 (dk_at dksX4_excessOf_4 0 rfl rfl)
theorem dX4_excessOf_98 : decode cX4_excessOf 98 = .ok (.aload_n 0, 1) := dk_42 (dk_at dksX4_excessOf_4 3 rfl rfl)
theorem dX4_excessOf_99 : decode cX4_excessOf 99 = .ok (.getfield 17, 3) := dk_180 0 17 (dk_at dksX4_excessOf_4 4 rfl rfl)
theorem dX4_excessOf_102 : decode cX4_excessOf 102 = .ok (.iload_n 3, 1) := dk_29 (dk_at dksX4_excessOf_4 7 rfl rfl)
theorem dX4_excessOf_103 : decode cX4_excessOf 103 = .ok (.iaload, 1) := dk_46 (dk_at dksX4_excessOf_4 8 rfl rfl)
theorem dX4_excessOf_104 : decode cX4_excessOf 104 = .ok (.goto 4, 3) := dk_167 0 4 (dk_at dksX4_excessOf_4 9 rfl rfl)
theorem dX4_excessOf_107 : decode cX4_excessOf 107 = .ok (.iconst 0, 1) := dk_3 (dk_at dksX4_excessOf_4 12 rfl rfl)
theorem dX4_excessOf_108 : decode cX4_excessOf 108 = .ok (.isub, 1) := dk_100 (dk_at dksX4_excessOf_4 13 rfl rfl)
theorem dX4_excessOf_109 : decode cX4_excessOf 109 = .ok (.istore_n 2, 1) := dk_61 (dk_at dksX4_excessOf_4 14 rfl rfl)
theorem dX4_excessOf_110 : decode cX4_excessOf 110 = .ok (.iinc 3 1, 3) := dk_132 3 1 (dk_at dksX4_excessOf_4 15 rfl rfl)
theorem dX4_excessOf_113 : decode cX4_excessOf 113 = .ok (.goto (-109), 3) := dk_167 255 147 (dk_at dksX4_excessOf_4 18 rfl rfl)
theorem dX4_excessOf_116 : decode cX4_excessOf 116 = .ok (.iload_n 2, 1) := dk_28 (dk_at dksX4_excessOf_4 21 rfl rfl)
theorem dX4_excessOf_117 : decode cX4_excessOf 117 = .ok (.ireturn, 1) := dk_172 (dk_at dksX4_excessOf_4 22 rfl rfl)
abbrev cX4_crowdedSet : ByteArray := prog_11_method_21_code
def yX4_crowdedSet : MethodName := ⟨RX4, "crowdedSet", "()I"⟩
def dkwX4_crowdedSet_0 : List UInt8 := [42, 3, 181, 0, 45, 42, 182, 0, 77, 172]
abbrev dktX4_crowdedSet_0 : List UInt8 := dkwX4_crowdedSet_0 ++ []
theorem dksX4_crowdedSet_0 : cX4_crowdedSet.data.toList.drop 0 = dktX4_crowdedSet_0 := by decide +kernel
theorem dX4_crowdedSet_0 : decode cX4_crowdedSet 0 = .ok (.aload_n 0, 1) := dk_42 (dk_at dksX4_crowdedSet_0 0 rfl rfl)
theorem dX4_crowdedSet_1 : decode cX4_crowdedSet 1 = .ok (.iconst 0, 1) := dk_3 (dk_at dksX4_crowdedSet_0 1 rfl rfl)
theorem dX4_crowdedSet_2 : decode cX4_crowdedSet 2 = .ok (.putfield 45, 3) := dk_181 0 45 (dk_at dksX4_crowdedSet_0 2 rfl rfl)
theorem dX4_crowdedSet_5 : decode cX4_crowdedSet 5 = .ok (.aload_n 0, 1) := dk_42 (dk_at dksX4_crowdedSet_0 5 rfl rfl)
theorem dX4_crowdedSet_6 : decode cX4_crowdedSet 6 = .ok (.invokevirtual 77, 3) := dk_182 0 77 (dk_at dksX4_crowdedSet_0 6 rfl rfl)
theorem dX4_crowdedSet_9 : decode cX4_crowdedSet 9 = .ok (.ireturn, 1) := dk_172 (dk_at dksX4_crowdedSet_0 9 rfl rfl)
abbrev cX4_excess : ByteArray := prog_11_method_22_code
def yX4_excess : MethodName := ⟨RX4, "excess", "(I)I"⟩
def dkwX4_excess_1 : List UInt8 := [181, 0, 45, 42, 180, 0, 45, 158, 0, 7, 3, 167, 0, 8, 42, 27, 182, 0, 73, 172]
abbrev dktX4_excess_1 : List UInt8 := dkwX4_excess_1 ++ []
def dkwX4_excess_0 : List UInt8 := [42, 27, 3, 4, 42, 180, 0, 7, 120, 4, 100, 184, 0, 48, 153, 0, 7, 3, 167, 0, 4, 4]
abbrev dktX4_excess_0 : List UInt8 := dkwX4_excess_0 ++ dktX4_excess_1
theorem dksX4_excess_0 : cX4_excess.data.toList.drop 0 = dktX4_excess_0 := by decide +kernel
theorem dksX4_excess_1 : cX4_excess.data.toList.drop 22 = dktX4_excess_1 := dk_seg dksX4_excess_0 22 rfl rfl
theorem dX4_excess_0 : decode cX4_excess 0 = .ok (.aload_n 0, 1) := dk_42 (dk_at dksX4_excess_0 0 rfl rfl)
theorem dX4_excess_1 : decode cX4_excess 1 = .ok (.iload_n 1, 1) := dk_27 (dk_at dksX4_excess_0 1 rfl rfl)
theorem dX4_excess_2 : decode cX4_excess 2 = .ok (.iconst 0, 1) := dk_3 (dk_at dksX4_excess_0 2 rfl rfl)
theorem dX4_excess_3 : decode cX4_excess 3 = .ok (.iconst 1, 1) := dk_4 (dk_at dksX4_excess_0 3 rfl rfl)
theorem dX4_excess_4 : decode cX4_excess 4 = .ok (.aload_n 0, 1) := dk_42 (dk_at dksX4_excess_0 4 rfl rfl)
theorem dX4_excess_5 : decode cX4_excess 5 = .ok (.getfield 7, 3) := dk_180 0 7 (dk_at dksX4_excess_0 5 rfl rfl)
theorem dX4_excess_8 : decode cX4_excess 8 = .ok (.ishl, 1) := dk_120 (dk_at dksX4_excess_0 8 rfl rfl)
theorem dX4_excess_9 : decode cX4_excess 9 = .ok (.iconst 1, 1) := dk_4 (dk_at dksX4_excess_0 9 rfl rfl)
theorem dX4_excess_10 : decode cX4_excess 10 = .ok (.isub, 1) := dk_100 (dk_at dksX4_excess_0 10 rfl rfl)
theorem dX4_excess_11 : decode cX4_excess 11 = .ok (.invokestatic 48, 3) := dk_184 0 48 (dk_at dksX4_excess_0 11 rfl rfl)
theorem dX4_excess_14 : decode cX4_excess 14 = .ok (.ifCond .eq 7, 3) := dk_153 0 7 (dk_at dksX4_excess_0 14 rfl rfl)
theorem dX4_excess_17 : decode cX4_excess 17 = .ok (.iconst 0, 1) := dk_3 (dk_at dksX4_excess_0 17 rfl rfl)
theorem dX4_excess_18 : decode cX4_excess 18 = .ok (.goto 4, 3) := dk_167 0 4 (dk_at dksX4_excess_0 18 rfl rfl)
theorem dX4_excess_21 : decode cX4_excess 21 = .ok (.iconst 1, 1) := dk_4 (dk_at dksX4_excess_0 21 rfl rfl)
theorem dX4_excess_22 : decode cX4_excess 22 = .ok (.putfield 45, 3) := dk_181 0 45 (dk_at dksX4_excess_1 0 rfl rfl)
theorem dX4_excess_25 : decode cX4_excess 25 = .ok (.aload_n 0, 1) := dk_42 (dk_at dksX4_excess_1 3 rfl rfl)
theorem dX4_excess_26 : decode cX4_excess 26 = .ok (.getfield 45, 3) := dk_180 0 45 (dk_at dksX4_excess_1 4 rfl rfl)
theorem dX4_excess_29 : decode cX4_excess 29 = .ok (.ifCond .le 7, 3) := dk_158 0 7 (dk_at dksX4_excess_1 7 rfl rfl)
theorem dX4_excess_32 : decode cX4_excess 32 = .ok (.iconst 0, 1) := dk_3 (dk_at dksX4_excess_1 10 rfl rfl)
theorem dX4_excess_33 : decode cX4_excess 33 = .ok (.goto 8, 3) := dk_167 0 8 (dk_at dksX4_excess_1 11 rfl rfl)
theorem dX4_excess_36 : decode cX4_excess 36 = .ok (.aload_n 0, 1) := dk_42 (dk_at dksX4_excess_1 14 rfl rfl)
theorem dX4_excess_37 : decode cX4_excess 37 = .ok (.iload_n 1, 1) := dk_27 (dk_at dksX4_excess_1 15 rfl rfl)
theorem dX4_excess_38 : decode cX4_excess 38 = .ok (.invokevirtual 73, 3) := dk_182 0 73 (dk_at dksX4_excess_1 16 rfl rfl)
theorem dX4_excess_41 : decode cX4_excess 41 = .ok (.ireturn, 1) := dk_172 (dk_at dksX4_excess_1 19 rfl rfl)
abbrev cX4_iterate : ByteArray := prog_11_method_30_code
def yX4_iterate : MethodName := ⟨RX4, "iterate", "(I)I"⟩
def dkwX4_iterate_2 : List UInt8 := [158, 0, 7, 3, 167, 0, 7, 42, 180, 0, 52, 172]
abbrev dktX4_iterate_2 : List UInt8 := dkwX4_iterate_2 ++ []
def dkwX4_iterate_1 : List UInt8 := [162, 0, 20, 42, 180, 0, 45, 154, 0, 13, 42, 182, 0, 102, 132, 2, 1, 167, 255, 237, 42, 180, 0, 45]
abbrev dktX4_iterate_1 : List UInt8 := dkwX4_iterate_1 ++ dktX4_iterate_2
def dkwX4_iterate_0 : List UInt8 := [42, 27, 4, 16, 50, 184, 0, 48, 153, 0, 7, 3, 167, 0, 4, 4, 181, 0, 45, 3, 61, 28, 27]
abbrev dktX4_iterate_0 : List UInt8 := dkwX4_iterate_0 ++ dktX4_iterate_1
theorem dksX4_iterate_0 : cX4_iterate.data.toList.drop 0 = dktX4_iterate_0 := by decide +kernel
theorem dksX4_iterate_1 : cX4_iterate.data.toList.drop 23 = dktX4_iterate_1 := dk_seg dksX4_iterate_0 23 rfl rfl
theorem dksX4_iterate_2 : cX4_iterate.data.toList.drop 47 = dktX4_iterate_2 := dk_seg dksX4_iterate_1 24 rfl rfl
theorem dX4_iterate_0 : decode cX4_iterate 0 = .ok (.aload_n 0, 1) := dk_42 (dk_at dksX4_iterate_0 0 rfl rfl)
theorem dX4_iterate_1 : decode cX4_iterate 1 = .ok (.iload_n 1, 1) := dk_27 (dk_at dksX4_iterate_0 1 rfl rfl)
theorem dX4_iterate_2 : decode cX4_iterate 2 = .ok (.iconst 1, 1) := dk_4 (dk_at dksX4_iterate_0 2 rfl rfl)
theorem dX4_iterate_3 : decode cX4_iterate 3 = .ok (.bipush 50, 2) := dk_16 50 (dk_at dksX4_iterate_0 3 rfl rfl)
theorem dX4_iterate_5 : decode cX4_iterate 5 = .ok (.invokestatic 48, 3) := dk_184 0 48 (dk_at dksX4_iterate_0 5 rfl rfl)
theorem dX4_iterate_8 : decode cX4_iterate 8 = .ok (.ifCond .eq 7, 3) := dk_153 0 7 (dk_at dksX4_iterate_0 8 rfl rfl)
theorem dX4_iterate_11 : decode cX4_iterate 11 = .ok (.iconst 0, 1) := dk_3 (dk_at dksX4_iterate_0 11 rfl rfl)
theorem dX4_iterate_12 : decode cX4_iterate 12 = .ok (.goto 4, 3) := dk_167 0 4 (dk_at dksX4_iterate_0 12 rfl rfl)
theorem dX4_iterate_15 : decode cX4_iterate 15 = .ok (.iconst 1, 1) := dk_4 (dk_at dksX4_iterate_0 15 rfl rfl)
theorem dX4_iterate_16 : decode cX4_iterate 16 = .ok (.putfield 45, 3) := dk_181 0 45 (dk_at dksX4_iterate_0 16 rfl rfl)
theorem dX4_iterate_19 : decode cX4_iterate 19 = .ok (.iconst 0, 1) := dk_3 (dk_at dksX4_iterate_0 19 rfl rfl)
theorem dX4_iterate_20 : decode cX4_iterate 20 = .ok (.istore_n 2, 1) := dk_61 (dk_at dksX4_iterate_0 20 rfl rfl)
theorem dX4_iterate_21 : decode cX4_iterate 21 = .ok (.iload_n 2, 1) := dk_28 (dk_at dksX4_iterate_0 21 rfl rfl)
theorem dX4_iterate_22 : decode cX4_iterate 22 = .ok (.iload_n 1, 1) := dk_27 (dk_at dksX4_iterate_0 22 rfl rfl)
theorem dX4_iterate_23 : decode cX4_iterate 23 = .ok (.if_icmp .ge 20, 3) := dk_162 0 20 (dk_at dksX4_iterate_1 0 rfl rfl)
theorem dX4_iterate_26 : decode cX4_iterate 26 = .ok (.aload_n 0, 1) := dk_42 (dk_at dksX4_iterate_1 3 rfl rfl)
theorem dX4_iterate_27 : decode cX4_iterate 27 = .ok (.getfield 45, 3) := dk_180 0 45 (dk_at dksX4_iterate_1 4 rfl rfl)
theorem dX4_iterate_30 : decode cX4_iterate 30 = .ok (.ifCond .ne 13, 3) := dk_154 0 13 (dk_at dksX4_iterate_1 7 rfl rfl)
theorem dX4_iterate_33 : decode cX4_iterate 33 = .ok (.aload_n 0, 1) := dk_42 (dk_at dksX4_iterate_1 10 rfl rfl)
theorem dX4_iterate_34 : decode cX4_iterate 34 = .ok (.invokevirtual 102, 3) := dk_182 0 102 (dk_at dksX4_iterate_1 11 rfl rfl)
theorem dX4_iterate_37 : decode cX4_iterate 37 = .ok (.iinc 2 1, 3) := dk_132 2 1 (dk_at dksX4_iterate_1 14 rfl rfl)
theorem dX4_iterate_40 : decode cX4_iterate 40 = .ok (.goto (-19), 3) := dk_167 255 237 (dk_at dksX4_iterate_1 17 rfl rfl)
theorem dX4_iterate_43 : decode cX4_iterate 43 = .ok (.aload_n 0, 1) := dk_42 (dk_at dksX4_iterate_1 20 rfl rfl)
theorem dX4_iterate_44 : decode cX4_iterate 44 = .ok (.getfield 45, 3) := dk_180 0 45 (dk_at dksX4_iterate_1 21 rfl rfl)
theorem dX4_iterate_47 : decode cX4_iterate 47 = .ok (.ifCond .le 7, 3) := dk_158 0 7 (dk_at dksX4_iterate_2 0 rfl rfl)
theorem dX4_iterate_50 : decode cX4_iterate 50 = .ok (.iconst 0, 1) := dk_3 (dk_at dksX4_iterate_2 3 rfl rfl)
theorem dX4_iterate_51 : decode cX4_iterate 51 = .ok (.goto 7, 3) := dk_167 0 7 (dk_at dksX4_iterate_2 4 rfl rfl)
theorem dX4_iterate_54 : decode cX4_iterate 54 = .ok (.aload_n 0, 1) := dk_42 (dk_at dksX4_iterate_2 7 rfl rfl)
theorem dX4_iterate_55 : decode cX4_iterate 55 = .ok (.getfield 52, 3) := dk_180 0 52 (dk_at dksX4_iterate_2 8 rfl rfl)
theorem dX4_iterate_58 : decode cX4_iterate 58 = .ok (.ireturn, 1) := dk_172 (dk_at dksX4_iterate_2 11 rfl rfl)
abbrev cX4_oneRound : ByteArray := prog_11_method_27_code
def yX4_oneRound : MethodName := ⟨RX4, "oneRound", "()V"⟩
def dkwX4_oneRound_2 : List UInt8 := [96, 181, 0, 52, 177]
abbrev dktX4_oneRound_2 : List UInt8 := dkwX4_oneRound_2 ++ []
def dkwX4_oneRound_1 : List UInt8 := [42, 180, 0, 7, 162, 0, 14, 42, 27, 182, 0, 95, 132, 1, 1, 167, 255, 240, 42, 89, 180, 0, 52, 4]
abbrev dktX4_oneRound_1 : List UInt8 := dkwX4_oneRound_1 ++ dktX4_oneRound_2
def dkwX4_oneRound_0 : List UInt8 := [3, 60, 27, 42, 180, 0, 7, 162, 0, 14, 42, 27, 182, 0, 91, 132, 1, 1, 167, 255, 240, 3, 60, 27]
abbrev dktX4_oneRound_0 : List UInt8 := dkwX4_oneRound_0 ++ dktX4_oneRound_1
theorem dksX4_oneRound_0 : cX4_oneRound.data.toList.drop 0 = dktX4_oneRound_0 := by decide +kernel
theorem dksX4_oneRound_1 : cX4_oneRound.data.toList.drop 24 = dktX4_oneRound_1 := dk_seg dksX4_oneRound_0 24 rfl rfl
theorem dksX4_oneRound_2 : cX4_oneRound.data.toList.drop 48 = dktX4_oneRound_2 := dk_seg dksX4_oneRound_1 24 rfl rfl
theorem dX4_oneRound_0 : decode cX4_oneRound 0 = .ok (.iconst 0, 1) := dk_3 (dk_at dksX4_oneRound_0 0 rfl rfl)
theorem dX4_oneRound_1 : decode cX4_oneRound 1 = .ok (.istore_n 1, 1) := dk_60 (dk_at dksX4_oneRound_0 1 rfl rfl)
theorem dX4_oneRound_2 : decode cX4_oneRound 2 = .ok (.iload_n 1, 1) := dk_27 (dk_at dksX4_oneRound_0 2 rfl rfl)
theorem dX4_oneRound_3 : decode cX4_oneRound 3 = .ok (.aload_n 0, 1) := dk_42 (dk_at dksX4_oneRound_0 3 rfl rfl)
theorem dX4_oneRound_4 : decode cX4_oneRound 4 = .ok (.getfield 7, 3) := dk_180 0 7 (dk_at dksX4_oneRound_0 4 rfl rfl)
theorem dX4_oneRound_7 : decode cX4_oneRound 7 = .ok (.if_icmp .ge 14, 3) := dk_162 0 14 (dk_at dksX4_oneRound_0 7 rfl rfl)
theorem dX4_oneRound_10 : decode cX4_oneRound 10 = .ok (.aload_n 0, 1) := dk_42 (dk_at dksX4_oneRound_0 10 rfl rfl)
theorem dX4_oneRound_11 : decode cX4_oneRound 11 = .ok (.iload_n 1, 1) := dk_27 (dk_at dksX4_oneRound_0 11 rfl rfl)
theorem dX4_oneRound_12 : decode cX4_oneRound 12 = .ok (.invokevirtual 91, 3) := dk_182 0 91 (dk_at dksX4_oneRound_0 12 rfl rfl)
theorem dX4_oneRound_15 : decode cX4_oneRound 15 = .ok (.iinc 1 1, 3) := dk_132 1 1 (dk_at dksX4_oneRound_0 15 rfl rfl)
theorem dX4_oneRound_18 : decode cX4_oneRound 18 = .ok (.goto (-16), 3) := dk_167 255 240 (dk_at dksX4_oneRound_0 18 rfl rfl)
theorem dX4_oneRound_21 : decode cX4_oneRound 21 = .ok (.iconst 0, 1) := dk_3 (dk_at dksX4_oneRound_0 21 rfl rfl)
theorem dX4_oneRound_22 : decode cX4_oneRound 22 = .ok (.istore_n 1, 1) := dk_60 (dk_at dksX4_oneRound_0 22 rfl rfl)
theorem dX4_oneRound_23 : decode cX4_oneRound 23 = .ok (.iload_n 1, 1) := dk_27 (dk_at dksX4_oneRound_0 23 rfl rfl)
theorem dX4_oneRound_24 : decode cX4_oneRound 24 = .ok (.aload_n 0, 1) := dk_42 (dk_at dksX4_oneRound_1 0 rfl rfl)
theorem dX4_oneRound_25 : decode cX4_oneRound 25 = .ok (.getfield 7, 3) := dk_180 0 7 (dk_at dksX4_oneRound_1 1 rfl rfl)
theorem dX4_oneRound_28 : decode cX4_oneRound 28 = .ok (.if_icmp .ge 14, 3) := dk_162 0 14 (dk_at dksX4_oneRound_1 4 rfl rfl)
theorem dX4_oneRound_31 : decode cX4_oneRound 31 = .ok (.aload_n 0, 1) := dk_42 (dk_at dksX4_oneRound_1 7 rfl rfl)
theorem dX4_oneRound_32 : decode cX4_oneRound 32 = .ok (.iload_n 1, 1) := dk_27 (dk_at dksX4_oneRound_1 8 rfl rfl)
theorem dX4_oneRound_33 : decode cX4_oneRound 33 = .ok (.invokevirtual 95, 3) := dk_182 0 95 (dk_at dksX4_oneRound_1 9 rfl rfl)
theorem dX4_oneRound_36 : decode cX4_oneRound 36 = .ok (.iinc 1 1, 3) := dk_132 1 1 (dk_at dksX4_oneRound_1 12 rfl rfl)
theorem dX4_oneRound_39 : decode cX4_oneRound 39 = .ok (.goto (-16), 3) := dk_167 255 240 (dk_at dksX4_oneRound_1 15 rfl rfl)
theorem dX4_oneRound_42 : decode cX4_oneRound 42 = .ok (.aload_n 0, 1) := dk_42 (dk_at dksX4_oneRound_1 18 rfl rfl)
theorem dX4_oneRound_43 : decode cX4_oneRound 43 = .ok (.dup, 1) := dk_89 (dk_at dksX4_oneRound_1 19 rfl rfl)
theorem dX4_oneRound_44 : decode cX4_oneRound 44 = .ok (.getfield 52, 3) := dk_180 0 52 (dk_at dksX4_oneRound_1 20 rfl rfl)
theorem dX4_oneRound_47 : decode cX4_oneRound 47 = .ok (.iconst 1, 1) := dk_4 (dk_at dksX4_oneRound_1 23 rfl rfl)
theorem dX4_oneRound_48 : decode cX4_oneRound 48 = .ok (.iadd, 1) := dk_96 (dk_at dksX4_oneRound_2 0 rfl rfl)
theorem dX4_oneRound_49 : decode cX4_oneRound 49 = .ok (.putfield 52, 3) := dk_181 0 52 (dk_at dksX4_oneRound_2 1 rfl rfl)
theorem dX4_oneRound_52 : decode cX4_oneRound 52 = .ok (.return_, 1) := dk_177 (dk_at dksX4_oneRound_2 4 rfl rfl)
abbrev cX4_rowStep : ByteArray := prog_11_method_25_code
def yX4_rowStep : MethodName := ⟨RX4, "rowStep", "(I)V"⟩
def dkwX4_rowStep_2 : List UInt8 := [24, 4, 107, 82, 132, 6, 1, 167, 255, 227, 177]
abbrev dktX4_rowStep_2 : List UInt8 := dkwX4_rowStep_2 ++ []
def dkwX4_rowStep_1 : List UInt8 := [54, 6, 21, 6, 42, 180, 0, 7, 162, 0, 26, 42, 180, 0, 23, 16, 6, 27, 104, 21, 6, 96, 92, 49]
abbrev dktX4_rowStep_1 : List UInt8 := dkwX4_rowStep_1 ++ dktX4_rowStep_2
def dkwX4_rowStep_0 : List UInt8 := [42, 27, 182, 0, 84, 73, 40, 14, 151, 158, 0, 49, 42, 180, 0, 13, 27, 46, 135, 40, 111, 57, 4, 3]
abbrev dktX4_rowStep_0 : List UInt8 := dkwX4_rowStep_0 ++ dktX4_rowStep_1
theorem dksX4_rowStep_0 : cX4_rowStep.data.toList.drop 0 = dktX4_rowStep_0 := by decide +kernel
theorem dksX4_rowStep_1 : cX4_rowStep.data.toList.drop 24 = dktX4_rowStep_1 := dk_seg dksX4_rowStep_0 24 rfl rfl
theorem dksX4_rowStep_2 : cX4_rowStep.data.toList.drop 48 = dktX4_rowStep_2 := dk_seg dksX4_rowStep_1 24 rfl rfl
theorem dX4_rowStep_0 : decode cX4_rowStep 0 = .ok (.aload_n 0, 1) := dk_42 (dk_at dksX4_rowStep_0 0 rfl rfl)
theorem dX4_rowStep_1 : decode cX4_rowStep 1 = .ok (.iload_n 1, 1) := dk_27 (dk_at dksX4_rowStep_0 1 rfl rfl)
theorem dX4_rowStep_2 : decode cX4_rowStep 2 = .ok (.invokevirtual 84, 3) := dk_182 0 84 (dk_at dksX4_rowStep_0 2 rfl rfl)
theorem dX4_rowStep_5 : decode cX4_rowStep 5 = .ok (.dstore_n 2, 1) := dk_73 (dk_at dksX4_rowStep_0 5 rfl rfl)
theorem dX4_rowStep_6 : decode cX4_rowStep 6 = .ok (.dload_n 2, 1) := dk_40 (dk_at dksX4_rowStep_0 6 rfl rfl)
theorem dX4_rowStep_7 : decode cX4_rowStep 7 = .ok (.dconst 0, 1) := dk_14 (dk_at dksX4_rowStep_0 7 rfl rfl)
theorem dX4_rowStep_8 : decode cX4_rowStep 8 = .ok (.dcmp .l, 1) := dk_151 (dk_at dksX4_rowStep_0 8 rfl rfl)
theorem dX4_rowStep_9 : decode cX4_rowStep 9 = .ok (.ifCond .le 49, 3) := dk_158 0 49 (dk_at dksX4_rowStep_0 9 rfl rfl)
theorem dX4_rowStep_12 : decode cX4_rowStep 12 = .ok (.aload_n 0, 1) := dk_42 (dk_at dksX4_rowStep_0 12 rfl rfl)
theorem dX4_rowStep_13 : decode cX4_rowStep 13 = .ok (.getfield 13, 3) := dk_180 0 13 (dk_at dksX4_rowStep_0 13 rfl rfl)
theorem dX4_rowStep_16 : decode cX4_rowStep 16 = .ok (.iload_n 1, 1) := dk_27 (dk_at dksX4_rowStep_0 16 rfl rfl)
theorem dX4_rowStep_17 : decode cX4_rowStep 17 = .ok (.iaload, 1) := dk_46 (dk_at dksX4_rowStep_0 17 rfl rfl)
theorem dX4_rowStep_18 : decode cX4_rowStep 18 = .ok (.i2d, 1) := dk_135 (dk_at dksX4_rowStep_0 18 rfl rfl)
theorem dX4_rowStep_19 : decode cX4_rowStep 19 = .ok (.dload_n 2, 1) := dk_40 (dk_at dksX4_rowStep_0 19 rfl rfl)
theorem dX4_rowStep_20 : decode cX4_rowStep 20 = .ok (.ddiv, 1) := dk_111 (dk_at dksX4_rowStep_0 20 rfl rfl)
theorem dX4_rowStep_21 : decode cX4_rowStep 21 = .ok (.dstore 4, 2) := dk_57 4 (dk_at dksX4_rowStep_0 21 rfl rfl)
theorem dX4_rowStep_23 : decode cX4_rowStep 23 = .ok (.iconst 0, 1) := dk_3 (dk_at dksX4_rowStep_0 23 rfl rfl)
theorem dX4_rowStep_24 : decode cX4_rowStep 24 = .ok (.istore 6, 2) := dk_54 6 (dk_at dksX4_rowStep_1 0 rfl rfl)
theorem dX4_rowStep_26 : decode cX4_rowStep 26 = .ok (.iload 6, 2) := dk_21 6 (dk_at dksX4_rowStep_1 2 rfl rfl)
theorem dX4_rowStep_28 : decode cX4_rowStep 28 = .ok (.aload_n 0, 1) := dk_42 (dk_at dksX4_rowStep_1 4 rfl rfl)
theorem dX4_rowStep_29 : decode cX4_rowStep 29 = .ok (.getfield 7, 3) := dk_180 0 7 (dk_at dksX4_rowStep_1 5 rfl rfl)
theorem dX4_rowStep_32 : decode cX4_rowStep 32 = .ok (.if_icmp .ge 26, 3) := dk_162 0 26 (dk_at dksX4_rowStep_1 8 rfl rfl)
theorem dX4_rowStep_35 : decode cX4_rowStep 35 = .ok (.aload_n 0, 1) := dk_42 (dk_at dksX4_rowStep_1 11 rfl rfl)
theorem dX4_rowStep_36 : decode cX4_rowStep 36 = .ok (.getfield 23, 3) := dk_180 0 23 (dk_at dksX4_rowStep_1 12 rfl rfl)
theorem dX4_rowStep_39 : decode cX4_rowStep 39 = .ok (.bipush 6, 2) := dk_16 6 (dk_at dksX4_rowStep_1 15 rfl rfl)
theorem dX4_rowStep_41 : decode cX4_rowStep 41 = .ok (.iload_n 1, 1) := dk_27 (dk_at dksX4_rowStep_1 17 rfl rfl)
theorem dX4_rowStep_42 : decode cX4_rowStep 42 = .ok (.imul, 1) := dk_104 (dk_at dksX4_rowStep_1 18 rfl rfl)
theorem dX4_rowStep_43 : decode cX4_rowStep 43 = .ok (.iload 6, 2) := dk_21 6 (dk_at dksX4_rowStep_1 19 rfl rfl)
theorem dX4_rowStep_45 : decode cX4_rowStep 45 = .ok (.iadd, 1) := dk_96 (dk_at dksX4_rowStep_1 21 rfl rfl)
theorem dX4_rowStep_46 : decode cX4_rowStep 46 = .ok (.dup2, 1) := dk_92 (dk_at dksX4_rowStep_1 22 rfl rfl)
theorem dX4_rowStep_47 : decode cX4_rowStep 47 = .ok (.daload, 1) := dk_49 (dk_at dksX4_rowStep_1 23 rfl rfl)
theorem dX4_rowStep_48 : decode cX4_rowStep 48 = .ok (.dload 4, 2) := dk_24 4 (dk_at dksX4_rowStep_2 0 rfl rfl)
theorem dX4_rowStep_50 : decode cX4_rowStep 50 = .ok (.dmul, 1) := dk_107 (dk_at dksX4_rowStep_2 2 rfl rfl)
theorem dX4_rowStep_51 : decode cX4_rowStep 51 = .ok (.dastore, 1) := dk_82 (dk_at dksX4_rowStep_2 3 rfl rfl)
theorem dX4_rowStep_52 : decode cX4_rowStep 52 = .ok (.iinc 6 1, 3) := dk_132 6 1 (dk_at dksX4_rowStep_2 4 rfl rfl)
theorem dX4_rowStep_55 : decode cX4_rowStep 55 = .ok (.goto (-29), 3) := dk_167 255 227 (dk_at dksX4_rowStep_2 7 rfl rfl)
theorem dX4_rowStep_58 : decode cX4_rowStep 58 = .ok (.return_, 1) := dk_177 (dk_at dksX4_rowStep_2 10 rfl rfl)
abbrev cX4_rowSum : ByteArray := prog_11_method_23_code
def yX4_rowSum : MethodName := ⟨RX4, "rowSum", "(I)D"⟩
def dkwX4_rowSum_1 : List UInt8 := [21, 4, 96, 49, 99, 73, 132, 4, 1, 167, 255, 229, 40, 175]
abbrev dktX4_rowSum_1 : List UInt8 := dkwX4_rowSum_1 ++ []
def dkwX4_rowSum_0 : List UInt8 := [14, 73, 3, 54, 4, 21, 4, 42, 180, 0, 7, 162, 0, 24, 40, 42, 180, 0, 23, 16, 6, 27, 104]
abbrev dktX4_rowSum_0 : List UInt8 := dkwX4_rowSum_0 ++ dktX4_rowSum_1
theorem dksX4_rowSum_0 : cX4_rowSum.data.toList.drop 0 = dktX4_rowSum_0 := by decide +kernel
theorem dksX4_rowSum_1 : cX4_rowSum.data.toList.drop 23 = dktX4_rowSum_1 := dk_seg dksX4_rowSum_0 23 rfl rfl
theorem dX4_rowSum_0 : decode cX4_rowSum 0 = .ok (.dconst 0, 1) := dk_14 (dk_at dksX4_rowSum_0 0 rfl rfl)
theorem dX4_rowSum_1 : decode cX4_rowSum 1 = .ok (.dstore_n 2, 1) := dk_73 (dk_at dksX4_rowSum_0 1 rfl rfl)
theorem dX4_rowSum_2 : decode cX4_rowSum 2 = .ok (.iconst 0, 1) := dk_3 (dk_at dksX4_rowSum_0 2 rfl rfl)
theorem dX4_rowSum_3 : decode cX4_rowSum 3 = .ok (.istore 4, 2) := dk_54 4 (dk_at dksX4_rowSum_0 3 rfl rfl)
theorem dX4_rowSum_5 : decode cX4_rowSum 5 = .ok (.iload 4, 2) := dk_21 4 (dk_at dksX4_rowSum_0 5 rfl rfl)
theorem dX4_rowSum_7 : decode cX4_rowSum 7 = .ok (.aload_n 0, 1) := dk_42 (dk_at dksX4_rowSum_0 7 rfl rfl)
theorem dX4_rowSum_8 : decode cX4_rowSum 8 = .ok (.getfield 7, 3) := dk_180 0 7 (dk_at dksX4_rowSum_0 8 rfl rfl)
theorem dX4_rowSum_11 : decode cX4_rowSum 11 = .ok (.if_icmp .ge 24, 3) := dk_162 0 24 (dk_at dksX4_rowSum_0 11 rfl rfl)
theorem dX4_rowSum_14 : decode cX4_rowSum 14 = .ok (.dload_n 2, 1) := dk_40 (dk_at dksX4_rowSum_0 14 rfl rfl)
theorem dX4_rowSum_15 : decode cX4_rowSum 15 = .ok (.aload_n 0, 1) := dk_42 (dk_at dksX4_rowSum_0 15 rfl rfl)
theorem dX4_rowSum_16 : decode cX4_rowSum 16 = .ok (.getfield 23, 3) := dk_180 0 23 (dk_at dksX4_rowSum_0 16 rfl rfl)
theorem dX4_rowSum_19 : decode cX4_rowSum 19 = .ok (.bipush 6, 2) := dk_16 6 (dk_at dksX4_rowSum_0 19 rfl rfl)
theorem dX4_rowSum_21 : decode cX4_rowSum 21 = .ok (.iload_n 1, 1) := dk_27 (dk_at dksX4_rowSum_0 21 rfl rfl)
theorem dX4_rowSum_22 : decode cX4_rowSum 22 = .ok (.imul, 1) := dk_104 (dk_at dksX4_rowSum_0 22 rfl rfl)
theorem dX4_rowSum_23 : decode cX4_rowSum 23 = .ok (.iload 4, 2) := dk_21 4 (dk_at dksX4_rowSum_1 0 rfl rfl)
theorem dX4_rowSum_25 : decode cX4_rowSum 25 = .ok (.iadd, 1) := dk_96 (dk_at dksX4_rowSum_1 2 rfl rfl)
theorem dX4_rowSum_26 : decode cX4_rowSum 26 = .ok (.daload, 1) := dk_49 (dk_at dksX4_rowSum_1 3 rfl rfl)
theorem dX4_rowSum_27 : decode cX4_rowSum 27 = .ok (.dadd, 1) := dk_99 (dk_at dksX4_rowSum_1 4 rfl rfl)
theorem dX4_rowSum_28 : decode cX4_rowSum 28 = .ok (.dstore_n 2, 1) := dk_73 (dk_at dksX4_rowSum_1 5 rfl rfl)
theorem dX4_rowSum_29 : decode cX4_rowSum 29 = .ok (.iinc 4 1, 3) := dk_132 4 1 (dk_at dksX4_rowSum_1 6 rfl rfl)
theorem dX4_rowSum_32 : decode cX4_rowSum 32 = .ok (.goto (-27), 3) := dk_167 255 229 (dk_at dksX4_rowSum_1 9 rfl rfl)
theorem dX4_rowSum_35 : decode cX4_rowSum 35 = .ok (.dload_n 2, 1) := dk_40 (dk_at dksX4_rowSum_1 12 rfl rfl)
theorem dX4_rowSum_36 : decode cX4_rowSum 36 = .ok (.dreturn, 1) := dk_175 (dk_at dksX4_rowSum_1 13 rfl rfl)
abbrev cX4_columnStep : ByteArray := prog_11_method_26_code
def yX4_columnStep : MethodName := ⟨RX4, "columnStep", "(I)V"⟩
def dkwX4_columnStep_2 : List UInt8 := [24, 4, 107, 82, 132, 6, 1, 167, 255, 227, 177]
abbrev dktX4_columnStep_2 : List UInt8 := dkwX4_columnStep_2 ++ []
def dkwX4_columnStep_1 : List UInt8 := [54, 6, 21, 6, 42, 180, 0, 7, 162, 0, 26, 42, 180, 0, 23, 16, 6, 21, 6, 104, 27, 96, 92, 49]
abbrev dktX4_columnStep_1 : List UInt8 := dkwX4_columnStep_1 ++ dktX4_columnStep_2
def dkwX4_columnStep_0 : List UInt8 := [42, 27, 182, 0, 88, 73, 40, 14, 151, 158, 0, 49, 42, 180, 0, 17, 27, 46, 135, 40, 111, 57, 4, 3]
abbrev dktX4_columnStep_0 : List UInt8 := dkwX4_columnStep_0 ++ dktX4_columnStep_1
theorem dksX4_columnStep_0 : cX4_columnStep.data.toList.drop 0 = dktX4_columnStep_0 := by decide +kernel
theorem dksX4_columnStep_1 : cX4_columnStep.data.toList.drop 24 = dktX4_columnStep_1 := dk_seg dksX4_columnStep_0 24 rfl rfl
theorem dksX4_columnStep_2 : cX4_columnStep.data.toList.drop 48 = dktX4_columnStep_2 := dk_seg dksX4_columnStep_1 24 rfl rfl
theorem dX4_columnStep_0 : decode cX4_columnStep 0 = .ok (.aload_n 0, 1) := dk_42 (dk_at dksX4_columnStep_0 0 rfl rfl)
theorem dX4_columnStep_1 : decode cX4_columnStep 1 = .ok (.iload_n 1, 1) := dk_27 (dk_at dksX4_columnStep_0 1 rfl rfl)
theorem dX4_columnStep_2 : decode cX4_columnStep 2 = .ok (.invokevirtual 88, 3) := dk_182 0 88 (dk_at dksX4_columnStep_0 2 rfl rfl)
theorem dX4_columnStep_5 : decode cX4_columnStep 5 = .ok (.dstore_n 2, 1) := dk_73 (dk_at dksX4_columnStep_0 5 rfl rfl)
theorem dX4_columnStep_6 : decode cX4_columnStep 6 = .ok (.dload_n 2, 1) := dk_40 (dk_at dksX4_columnStep_0 6 rfl rfl)
theorem dX4_columnStep_7 : decode cX4_columnStep 7 = .ok (.dconst 0, 1) := dk_14 (dk_at dksX4_columnStep_0 7 rfl rfl)
theorem dX4_columnStep_8 : decode cX4_columnStep 8 = .ok (.dcmp .l, 1) := dk_151 (dk_at dksX4_columnStep_0 8 rfl rfl)
theorem dX4_columnStep_9 : decode cX4_columnStep 9 = .ok (.ifCond .le 49, 3) := dk_158 0 49 (dk_at dksX4_columnStep_0 9 rfl rfl)
theorem dX4_columnStep_12 : decode cX4_columnStep 12 = .ok (.aload_n 0, 1) := dk_42 (dk_at dksX4_columnStep_0 12 rfl rfl)
theorem dX4_columnStep_13 : decode cX4_columnStep 13 = .ok (.getfield 17, 3) := dk_180 0 17 (dk_at dksX4_columnStep_0 13 rfl rfl)
theorem dX4_columnStep_16 : decode cX4_columnStep 16 = .ok (.iload_n 1, 1) := dk_27 (dk_at dksX4_columnStep_0 16 rfl rfl)
theorem dX4_columnStep_17 : decode cX4_columnStep 17 = .ok (.iaload, 1) := dk_46 (dk_at dksX4_columnStep_0 17 rfl rfl)
theorem dX4_columnStep_18 : decode cX4_columnStep 18 = .ok (.i2d, 1) := dk_135 (dk_at dksX4_columnStep_0 18 rfl rfl)
theorem dX4_columnStep_19 : decode cX4_columnStep 19 = .ok (.dload_n 2, 1) := dk_40 (dk_at dksX4_columnStep_0 19 rfl rfl)
theorem dX4_columnStep_20 : decode cX4_columnStep 20 = .ok (.ddiv, 1) := dk_111 (dk_at dksX4_columnStep_0 20 rfl rfl)
theorem dX4_columnStep_21 : decode cX4_columnStep 21 = .ok (.dstore 4, 2) := dk_57 4 (dk_at dksX4_columnStep_0 21 rfl rfl)
theorem dX4_columnStep_23 : decode cX4_columnStep 23 = .ok (.iconst 0, 1) := dk_3 (dk_at dksX4_columnStep_0 23 rfl rfl)
theorem dX4_columnStep_24 : decode cX4_columnStep 24 = .ok (.istore 6, 2) := dk_54 6 (dk_at dksX4_columnStep_1 0 rfl rfl)
theorem dX4_columnStep_26 : decode cX4_columnStep 26 = .ok (.iload 6, 2) := dk_21 6 (dk_at dksX4_columnStep_1 2 rfl rfl)
theorem dX4_columnStep_28 : decode cX4_columnStep 28 = .ok (.aload_n 0, 1) := dk_42 (dk_at dksX4_columnStep_1 4 rfl rfl)
theorem dX4_columnStep_29 : decode cX4_columnStep 29 = .ok (.getfield 7, 3) := dk_180 0 7 (dk_at dksX4_columnStep_1 5 rfl rfl)
theorem dX4_columnStep_32 : decode cX4_columnStep 32 = .ok (.if_icmp .ge 26, 3) := dk_162 0 26 (dk_at dksX4_columnStep_1 8 rfl rfl)
theorem dX4_columnStep_35 : decode cX4_columnStep 35 = .ok (.aload_n 0, 1) := dk_42 (dk_at dksX4_columnStep_1 11 rfl rfl)
theorem dX4_columnStep_36 : decode cX4_columnStep 36 = .ok (.getfield 23, 3) := dk_180 0 23 (dk_at dksX4_columnStep_1 12 rfl rfl)
theorem dX4_columnStep_39 : decode cX4_columnStep 39 = .ok (.bipush 6, 2) := dk_16 6 (dk_at dksX4_columnStep_1 15 rfl rfl)
theorem dX4_columnStep_41 : decode cX4_columnStep 41 = .ok (.iload 6, 2) := dk_21 6 (dk_at dksX4_columnStep_1 17 rfl rfl)
theorem dX4_columnStep_43 : decode cX4_columnStep 43 = .ok (.imul, 1) := dk_104 (dk_at dksX4_columnStep_1 19 rfl rfl)
theorem dX4_columnStep_44 : decode cX4_columnStep 44 = .ok (.iload_n 1, 1) := dk_27 (dk_at dksX4_columnStep_1 20 rfl rfl)
theorem dX4_columnStep_45 : decode cX4_columnStep 45 = .ok (.iadd, 1) := dk_96 (dk_at dksX4_columnStep_1 21 rfl rfl)
theorem dX4_columnStep_46 : decode cX4_columnStep 46 = .ok (.dup2, 1) := dk_92 (dk_at dksX4_columnStep_1 22 rfl rfl)
theorem dX4_columnStep_47 : decode cX4_columnStep 47 = .ok (.daload, 1) := dk_49 (dk_at dksX4_columnStep_1 23 rfl rfl)
theorem dX4_columnStep_48 : decode cX4_columnStep 48 = .ok (.dload 4, 2) := dk_24 4 (dk_at dksX4_columnStep_2 0 rfl rfl)
theorem dX4_columnStep_50 : decode cX4_columnStep 50 = .ok (.dmul, 1) := dk_107 (dk_at dksX4_columnStep_2 2 rfl rfl)
theorem dX4_columnStep_51 : decode cX4_columnStep 51 = .ok (.dastore, 1) := dk_82 (dk_at dksX4_columnStep_2 3 rfl rfl)
theorem dX4_columnStep_52 : decode cX4_columnStep 52 = .ok (.iinc 6 1, 3) := dk_132 6 1 (dk_at dksX4_columnStep_2 4 rfl rfl)
theorem dX4_columnStep_55 : decode cX4_columnStep 55 = .ok (.goto (-29), 3) := dk_167 255 227 (dk_at dksX4_columnStep_2 7 rfl rfl)
theorem dX4_columnStep_58 : decode cX4_columnStep 58 = .ok (.return_, 1) := dk_177 (dk_at dksX4_columnStep_2 10 rfl rfl)
abbrev cX4_columnSum : ByteArray := prog_11_method_24_code
def yX4_columnSum : MethodName := ⟨RX4, "columnSum", "(I)D"⟩
def dkwX4_columnSum_1 : List UInt8 := [27, 96, 49, 99, 73, 132, 4, 1, 167, 255, 229, 40, 175]
abbrev dktX4_columnSum_1 : List UInt8 := dkwX4_columnSum_1 ++ []
def dkwX4_columnSum_0 : List UInt8 := [14, 73, 3, 54, 4, 21, 4, 42, 180, 0, 7, 162, 0, 24, 40, 42, 180, 0, 23, 16, 6, 21, 4, 104]
abbrev dktX4_columnSum_0 : List UInt8 := dkwX4_columnSum_0 ++ dktX4_columnSum_1
theorem dksX4_columnSum_0 : cX4_columnSum.data.toList.drop 0 = dktX4_columnSum_0 := by decide +kernel
theorem dksX4_columnSum_1 : cX4_columnSum.data.toList.drop 24 = dktX4_columnSum_1 := dk_seg dksX4_columnSum_0 24 rfl rfl
theorem dX4_columnSum_0 : decode cX4_columnSum 0 = .ok (.dconst 0, 1) := dk_14 (dk_at dksX4_columnSum_0 0 rfl rfl)
theorem dX4_columnSum_1 : decode cX4_columnSum 1 = .ok (.dstore_n 2, 1) := dk_73 (dk_at dksX4_columnSum_0 1 rfl rfl)
theorem dX4_columnSum_2 : decode cX4_columnSum 2 = .ok (.iconst 0, 1) := dk_3 (dk_at dksX4_columnSum_0 2 rfl rfl)
theorem dX4_columnSum_3 : decode cX4_columnSum 3 = .ok (.istore 4, 2) := dk_54 4 (dk_at dksX4_columnSum_0 3 rfl rfl)
theorem dX4_columnSum_5 : decode cX4_columnSum 5 = .ok (.iload 4, 2) := dk_21 4 (dk_at dksX4_columnSum_0 5 rfl rfl)
theorem dX4_columnSum_7 : decode cX4_columnSum 7 = .ok (.aload_n 0, 1) := dk_42 (dk_at dksX4_columnSum_0 7 rfl rfl)
theorem dX4_columnSum_8 : decode cX4_columnSum 8 = .ok (.getfield 7, 3) := dk_180 0 7 (dk_at dksX4_columnSum_0 8 rfl rfl)
theorem dX4_columnSum_11 : decode cX4_columnSum 11 = .ok (.if_icmp .ge 24, 3) := dk_162 0 24 (dk_at dksX4_columnSum_0 11 rfl rfl)
theorem dX4_columnSum_14 : decode cX4_columnSum 14 = .ok (.dload_n 2, 1) := dk_40 (dk_at dksX4_columnSum_0 14 rfl rfl)
theorem dX4_columnSum_15 : decode cX4_columnSum 15 = .ok (.aload_n 0, 1) := dk_42 (dk_at dksX4_columnSum_0 15 rfl rfl)
theorem dX4_columnSum_16 : decode cX4_columnSum 16 = .ok (.getfield 23, 3) := dk_180 0 23 (dk_at dksX4_columnSum_0 16 rfl rfl)
theorem dX4_columnSum_19 : decode cX4_columnSum 19 = .ok (.bipush 6, 2) := dk_16 6 (dk_at dksX4_columnSum_0 19 rfl rfl)
theorem dX4_columnSum_21 : decode cX4_columnSum 21 = .ok (.iload 4, 2) := dk_21 4 (dk_at dksX4_columnSum_0 21 rfl rfl)
theorem dX4_columnSum_23 : decode cX4_columnSum 23 = .ok (.imul, 1) := dk_104 (dk_at dksX4_columnSum_0 23 rfl rfl)
theorem dX4_columnSum_24 : decode cX4_columnSum 24 = .ok (.iload_n 1, 1) := dk_27 (dk_at dksX4_columnSum_1 0 rfl rfl)
theorem dX4_columnSum_25 : decode cX4_columnSum 25 = .ok (.iadd, 1) := dk_96 (dk_at dksX4_columnSum_1 1 rfl rfl)
theorem dX4_columnSum_26 : decode cX4_columnSum 26 = .ok (.daload, 1) := dk_49 (dk_at dksX4_columnSum_1 2 rfl rfl)
theorem dX4_columnSum_27 : decode cX4_columnSum 27 = .ok (.dadd, 1) := dk_99 (dk_at dksX4_columnSum_1 3 rfl rfl)
theorem dX4_columnSum_28 : decode cX4_columnSum 28 = .ok (.dstore_n 2, 1) := dk_73 (dk_at dksX4_columnSum_1 4 rfl rfl)
theorem dX4_columnSum_29 : decode cX4_columnSum 29 = .ok (.iinc 4 1, 3) := dk_132 4 1 (dk_at dksX4_columnSum_1 5 rfl rfl)
theorem dX4_columnSum_32 : decode cX4_columnSum 32 = .ok (.goto (-27), 3) := dk_167 255 229 (dk_at dksX4_columnSum_1 8 rfl rfl)
theorem dX4_columnSum_35 : decode cX4_columnSum 35 = .ok (.dload_n 2, 1) := dk_40 (dk_at dksX4_columnSum_1 11 rfl rfl)
theorem dX4_columnSum_36 : decode cX4_columnSum 36 = .ok (.dreturn, 1) := dk_175 (dk_at dksX4_columnSum_1 12 rfl rfl)
abbrev cX4_fit : ByteArray := prog_11_method_31_code
def yX4_fit : MethodName := ⟨RX4, "fit", "(II)I"⟩
def dkwX4_fit_3 : List UInt8 := [172]
abbrev dktX4_fit_3 : List UInt8 := dkwX4_fit_3 ++ []
def dkwX4_fit_2 : List UInt8 := [182, 0, 106, 27, 135, 20, 0, 110, 111, 151, 158, 0, 13, 42, 182, 0, 102, 132, 3, 1, 167, 255, 223, 29]
abbrev dktX4_fit_2 : List UInt8 := dkwX4_fit_2 ++ dktX4_fit_3
def dkwX4_fit_1 : List UInt8 := [167, 0, 4, 4, 181, 0, 45, 3, 62, 42, 180, 0, 45, 154, 0, 32, 29, 28, 162, 0, 27, 42]
abbrev dktX4_fit_1 : List UInt8 := dkwX4_fit_1 ++ dktX4_fit_2
def dkwX4_fit_0 : List UInt8 := [42, 27, 3, 18, 105, 184, 0, 48, 153, 0, 17, 28, 4, 16, 100, 184, 0, 48, 153, 0, 7, 3]
abbrev dktX4_fit_0 : List UInt8 := dkwX4_fit_0 ++ dktX4_fit_1
theorem dksX4_fit_0 : cX4_fit.data.toList.drop 0 = dktX4_fit_0 := by decide +kernel
theorem dksX4_fit_1 : cX4_fit.data.toList.drop 22 = dktX4_fit_1 := dk_seg dksX4_fit_0 22 rfl rfl
theorem dksX4_fit_2 : cX4_fit.data.toList.drop 44 = dktX4_fit_2 := dk_seg dksX4_fit_1 22 rfl rfl
theorem dksX4_fit_3 : cX4_fit.data.toList.drop 68 = dktX4_fit_3 := dk_seg dksX4_fit_2 24 rfl rfl
theorem dX4_fit_0 : decode cX4_fit 0 = .ok (.aload_n 0, 1) := dk_42 (dk_at dksX4_fit_0 0 rfl rfl)
theorem dX4_fit_1 : decode cX4_fit 1 = .ok (.iload_n 1, 1) := dk_27 (dk_at dksX4_fit_0 1 rfl rfl)
theorem dX4_fit_2 : decode cX4_fit 2 = .ok (.iconst 0, 1) := dk_3 (dk_at dksX4_fit_0 2 rfl rfl)
theorem dX4_fit_3 : decode cX4_fit 3 = .ok (.ldc 105, 2) := dk_18 105 (dk_at dksX4_fit_0 3 rfl rfl)
theorem dX4_fit_5 : decode cX4_fit 5 = .ok (.invokestatic 48, 3) := dk_184 0 48 (dk_at dksX4_fit_0 5 rfl rfl)
theorem dX4_fit_8 : decode cX4_fit 8 = .ok (.ifCond .eq 17, 3) := dk_153 0 17 (dk_at dksX4_fit_0 8 rfl rfl)
theorem dX4_fit_11 : decode cX4_fit 11 = .ok (.iload_n 2, 1) := dk_28 (dk_at dksX4_fit_0 11 rfl rfl)
theorem dX4_fit_12 : decode cX4_fit 12 = .ok (.iconst 1, 1) := dk_4 (dk_at dksX4_fit_0 12 rfl rfl)
theorem dX4_fit_13 : decode cX4_fit 13 = .ok (.bipush 100, 2) := dk_16 100 (dk_at dksX4_fit_0 13 rfl rfl)
theorem dX4_fit_15 : decode cX4_fit 15 = .ok (.invokestatic 48, 3) := dk_184 0 48 (dk_at dksX4_fit_0 15 rfl rfl)
theorem dX4_fit_18 : decode cX4_fit 18 = .ok (.ifCond .eq 7, 3) := dk_153 0 7 (dk_at dksX4_fit_0 18 rfl rfl)
theorem dX4_fit_21 : decode cX4_fit 21 = .ok (.iconst 0, 1) := dk_3 (dk_at dksX4_fit_0 21 rfl rfl)
theorem dX4_fit_22 : decode cX4_fit 22 = .ok (.goto 4, 3) := dk_167 0 4 (dk_at dksX4_fit_1 0 rfl rfl)
theorem dX4_fit_25 : decode cX4_fit 25 = .ok (.iconst 1, 1) := dk_4 (dk_at dksX4_fit_1 3 rfl rfl)
theorem dX4_fit_26 : decode cX4_fit 26 = .ok (.putfield 45, 3) := dk_181 0 45 (dk_at dksX4_fit_1 4 rfl rfl)
theorem dX4_fit_29 : decode cX4_fit 29 = .ok (.iconst 0, 1) := dk_3 (dk_at dksX4_fit_1 7 rfl rfl)
theorem dX4_fit_30 : decode cX4_fit 30 = .ok (.istore_n 3, 1) := dk_62 (dk_at dksX4_fit_1 8 rfl rfl)
theorem dX4_fit_31 : decode cX4_fit 31 = .ok (.aload_n 0, 1) := dk_42 (dk_at dksX4_fit_1 9 rfl rfl)
theorem dX4_fit_32 : decode cX4_fit 32 = .ok (.getfield 45, 3) := dk_180 0 45 (dk_at dksX4_fit_1 10 rfl rfl)
theorem dX4_fit_35 : decode cX4_fit 35 = .ok (.ifCond .ne 32, 3) := dk_154 0 32 (dk_at dksX4_fit_1 13 rfl rfl)
theorem dX4_fit_38 : decode cX4_fit 38 = .ok (.iload_n 3, 1) := dk_29 (dk_at dksX4_fit_1 16 rfl rfl)
theorem dX4_fit_39 : decode cX4_fit 39 = .ok (.iload_n 2, 1) := dk_28 (dk_at dksX4_fit_1 17 rfl rfl)
theorem dX4_fit_40 : decode cX4_fit 40 = .ok (.if_icmp .ge 27, 3) := dk_162 0 27 (dk_at dksX4_fit_1 18 rfl rfl)
theorem dX4_fit_43 : decode cX4_fit 43 = .ok (.aload_n 0, 1) := dk_42 (dk_at dksX4_fit_1 21 rfl rfl)
theorem dX4_fit_44 : decode cX4_fit 44 = .ok (.invokevirtual 106, 3) := dk_182 0 106 (dk_at dksX4_fit_2 0 rfl rfl)
theorem dX4_fit_47 : decode cX4_fit 47 = .ok (.iload_n 1, 1) := dk_27 (dk_at dksX4_fit_2 3 rfl rfl)
theorem dX4_fit_48 : decode cX4_fit 48 = .ok (.i2d, 1) := dk_135 (dk_at dksX4_fit_2 4 rfl rfl)
theorem dX4_fit_49 : decode cX4_fit 49 = .ok (.ldc2_w 110, 3) := dk_20 0 110 (dk_at dksX4_fit_2 5 rfl rfl)
theorem dX4_fit_52 : decode cX4_fit 52 = .ok (.ddiv, 1) := dk_111 (dk_at dksX4_fit_2 8 rfl rfl)
theorem dX4_fit_53 : decode cX4_fit 53 = .ok (.dcmp .l, 1) := dk_151 (dk_at dksX4_fit_2 9 rfl rfl)
theorem dX4_fit_54 : decode cX4_fit 54 = .ok (.ifCond .le 13, 3) := dk_158 0 13 (dk_at dksX4_fit_2 10 rfl rfl)
theorem dX4_fit_57 : decode cX4_fit 57 = .ok (.aload_n 0, 1) := dk_42 (dk_at dksX4_fit_2 13 rfl rfl)
theorem dX4_fit_58 : decode cX4_fit 58 = .ok (.invokevirtual 102, 3) := dk_182 0 102 (dk_at dksX4_fit_2 14 rfl rfl)
theorem dX4_fit_61 : decode cX4_fit 61 = .ok (.iinc 3 1, 3) := dk_132 3 1 (dk_at dksX4_fit_2 17 rfl rfl)
theorem dX4_fit_64 : decode cX4_fit 64 = .ok (.goto (-33), 3) := dk_167 255 223 (dk_at dksX4_fit_2 20 rfl rfl)
theorem dX4_fit_67 : decode cX4_fit 67 = .ok (.iload_n 3, 1) := dk_29 (dk_at dksX4_fit_2 23 rfl rfl)
theorem dX4_fit_68 : decode cX4_fit 68 = .ok (.ireturn, 1) := dk_172 (dk_at dksX4_fit_3 0 rfl rfl)
abbrev cX4_misfitNow : ByteArray := prog_11_method_29_code
def yX4_misfitNow : MethodName := ⟨RX4, "misfitNow", "()D"⟩
def dkwX4_misfitNow_3 : List UInt8 := [39, 72, 132, 3, 1, 167, 255, 183, 39, 175]
abbrev dktX4_misfitNow_3 : List UInt8 := dkwX4_misfitNow_3 ++ []
def dkwX4_misfitNow_2 : List UInt8 := [39, 151, 158, 0, 8, 24, 4, 167, 0, 4, 39, 72, 24, 6, 39, 151, 158, 0, 8, 24, 6, 167, 0, 4]
abbrev dktX4_misfitNow_2 : List UInt8 := dkwX4_misfitNow_2 ++ dktX4_misfitNow_3
def dkwX4_misfitNow_1 : List UInt8 := [184, 0, 98, 57, 4, 42, 29, 182, 0, 88, 42, 180, 0, 17, 29, 46, 135, 184, 0, 98, 57, 6, 24, 4]
abbrev dktX4_misfitNow_1 : List UInt8 := dkwX4_misfitNow_1 ++ dktX4_misfitNow_2
def dkwX4_misfitNow_0 : List UInt8 := [14, 72, 3, 62, 29, 42, 180, 0, 7, 162, 0, 71, 42, 29, 182, 0, 84, 42, 180, 0, 13, 29, 46, 135]
abbrev dktX4_misfitNow_0 : List UInt8 := dkwX4_misfitNow_0 ++ dktX4_misfitNow_1
theorem dksX4_misfitNow_0 : cX4_misfitNow.data.toList.drop 0 = dktX4_misfitNow_0 := by decide +kernel
theorem dksX4_misfitNow_1 : cX4_misfitNow.data.toList.drop 24 = dktX4_misfitNow_1 := dk_seg dksX4_misfitNow_0 24 rfl rfl
theorem dksX4_misfitNow_2 : cX4_misfitNow.data.toList.drop 48 = dktX4_misfitNow_2 := dk_seg dksX4_misfitNow_1 24 rfl rfl
theorem dksX4_misfitNow_3 : cX4_misfitNow.data.toList.drop 72 = dktX4_misfitNow_3 := dk_seg dksX4_misfitNow_2 24 rfl rfl
theorem dX4_misfitNow_0 : decode cX4_misfitNow 0 = .ok (.dconst 0, 1) := dk_14 (dk_at dksX4_misfitNow_0 0 rfl rfl)
theorem dX4_misfitNow_1 : decode cX4_misfitNow 1 = .ok (.dstore_n 1, 1) := dk_72 (dk_at dksX4_misfitNow_0 1 rfl rfl)
theorem dX4_misfitNow_2 : decode cX4_misfitNow 2 = .ok (.iconst 0, 1) := dk_3 (dk_at dksX4_misfitNow_0 2 rfl rfl)
theorem dX4_misfitNow_3 : decode cX4_misfitNow 3 = .ok (.istore_n 3, 1) := dk_62 (dk_at dksX4_misfitNow_0 3 rfl rfl)
theorem dX4_misfitNow_4 : decode cX4_misfitNow 4 = .ok (.iload_n 3, 1) := dk_29 (dk_at dksX4_misfitNow_0 4 rfl rfl)
theorem dX4_misfitNow_5 : decode cX4_misfitNow 5 = .ok (.aload_n 0, 1) := dk_42 (dk_at dksX4_misfitNow_0 5 rfl rfl)
theorem dX4_misfitNow_6 : decode cX4_misfitNow 6 = .ok (.getfield 7, 3) := dk_180 0 7 (dk_at dksX4_misfitNow_0 6 rfl rfl)
theorem dX4_misfitNow_9 : decode cX4_misfitNow 9 = .ok (.if_icmp .ge 71, 3) := dk_162 0 71 (dk_at dksX4_misfitNow_0 9 rfl rfl)
theorem dX4_misfitNow_12 : decode cX4_misfitNow 12 = .ok (.aload_n 0, 1) := dk_42 (dk_at dksX4_misfitNow_0 12 rfl rfl)
theorem dX4_misfitNow_13 : decode cX4_misfitNow 13 = .ok (.iload_n 3, 1) := dk_29 (dk_at dksX4_misfitNow_0 13 rfl rfl)
theorem dX4_misfitNow_14 : decode cX4_misfitNow 14 = .ok (.invokevirtual 84, 3) := dk_182 0 84 (dk_at dksX4_misfitNow_0 14 rfl rfl)
theorem dX4_misfitNow_17 : decode cX4_misfitNow 17 = .ok (.aload_n 0, 1) := dk_42 (dk_at dksX4_misfitNow_0 17 rfl rfl)
theorem dX4_misfitNow_18 : decode cX4_misfitNow 18 = .ok (.getfield 13, 3) := dk_180 0 13 (dk_at dksX4_misfitNow_0 18 rfl rfl)
theorem dX4_misfitNow_21 : decode cX4_misfitNow 21 = .ok (.iload_n 3, 1) := dk_29 (dk_at dksX4_misfitNow_0 21 rfl rfl)
theorem dX4_misfitNow_22 : decode cX4_misfitNow 22 = .ok (.iaload, 1) := dk_46 (dk_at dksX4_misfitNow_0 22 rfl rfl)
theorem dX4_misfitNow_23 : decode cX4_misfitNow 23 = .ok (.i2d, 1) := dk_135 (dk_at dksX4_misfitNow_0 23 rfl rfl)
theorem dX4_misfitNow_24 : decode cX4_misfitNow 24 = .ok (.invokestatic 98, 3) := dk_184 0 98 (dk_at dksX4_misfitNow_1 0 rfl rfl)
theorem dX4_misfitNow_27 : decode cX4_misfitNow 27 = .ok (.dstore 4, 2) := dk_57 4 (dk_at dksX4_misfitNow_1 3 rfl rfl)
theorem dX4_misfitNow_29 : decode cX4_misfitNow 29 = .ok (.aload_n 0, 1) := dk_42 (dk_at dksX4_misfitNow_1 5 rfl rfl)
theorem dX4_misfitNow_30 : decode cX4_misfitNow 30 = .ok (.iload_n 3, 1) := dk_29 (dk_at dksX4_misfitNow_1 6 rfl rfl)
theorem dX4_misfitNow_31 : decode cX4_misfitNow 31 = .ok (.invokevirtual 88, 3) := dk_182 0 88 (dk_at dksX4_misfitNow_1 7 rfl rfl)
theorem dX4_misfitNow_34 : decode cX4_misfitNow 34 = .ok (.aload_n 0, 1) := dk_42 (dk_at dksX4_misfitNow_1 10 rfl rfl)
theorem dX4_misfitNow_35 : decode cX4_misfitNow 35 = .ok (.getfield 17, 3) := dk_180 0 17 (dk_at dksX4_misfitNow_1 11 rfl rfl)
theorem dX4_misfitNow_38 : decode cX4_misfitNow 38 = .ok (.iload_n 3, 1) := dk_29 (dk_at dksX4_misfitNow_1 14 rfl rfl)
theorem dX4_misfitNow_39 : decode cX4_misfitNow 39 = .ok (.iaload, 1) := dk_46 (dk_at dksX4_misfitNow_1 15 rfl rfl)
theorem dX4_misfitNow_40 : decode cX4_misfitNow 40 = .ok (.i2d, 1) := dk_135 (dk_at dksX4_misfitNow_1 16 rfl rfl)
theorem dX4_misfitNow_41 : decode cX4_misfitNow 41 = .ok (.invokestatic 98, 3) := dk_184 0 98 (dk_at dksX4_misfitNow_1 17 rfl rfl)
theorem dX4_misfitNow_44 : decode cX4_misfitNow 44 = .ok (.dstore 6, 2) := dk_57 6 (dk_at dksX4_misfitNow_1 20 rfl rfl)
theorem dX4_misfitNow_46 : decode cX4_misfitNow 46 = .ok (.dload 4, 2) := dk_24 4 (dk_at dksX4_misfitNow_1 22 rfl rfl)
theorem dX4_misfitNow_48 : decode cX4_misfitNow 48 = .ok (.dload_n 1, 1) := dk_39 (dk_at dksX4_misfitNow_2 0 rfl rfl)
theorem dX4_misfitNow_49 : decode cX4_misfitNow 49 = .ok (.dcmp .l, 1) := dk_151 (dk_at dksX4_misfitNow_2 1 rfl rfl)
theorem dX4_misfitNow_50 : decode cX4_misfitNow 50 = .ok (.ifCond .le 8, 3) := dk_158 0 8 (dk_at dksX4_misfitNow_2 2 rfl rfl)
theorem dX4_misfitNow_53 : decode cX4_misfitNow 53 = .ok (.dload 4, 2) := dk_24 4 (dk_at dksX4_misfitNow_2 5 rfl rfl)
theorem dX4_misfitNow_55 : decode cX4_misfitNow 55 = .ok (.goto 4, 3) := dk_167 0 4 (dk_at dksX4_misfitNow_2 7 rfl rfl)
theorem dX4_misfitNow_58 : decode cX4_misfitNow 58 = .ok (.dload_n 1, 1) := dk_39 (dk_at dksX4_misfitNow_2 10 rfl rfl)
theorem dX4_misfitNow_59 : decode cX4_misfitNow 59 = .ok (.dstore_n 1, 1) := dk_72 (dk_at dksX4_misfitNow_2 11 rfl rfl)
theorem dX4_misfitNow_60 : decode cX4_misfitNow 60 = .ok (.dload 6, 2) := dk_24 6 (dk_at dksX4_misfitNow_2 12 rfl rfl)
theorem dX4_misfitNow_62 : decode cX4_misfitNow 62 = .ok (.dload_n 1, 1) := dk_39 (dk_at dksX4_misfitNow_2 14 rfl rfl)
theorem dX4_misfitNow_63 : decode cX4_misfitNow 63 = .ok (.dcmp .l, 1) := dk_151 (dk_at dksX4_misfitNow_2 15 rfl rfl)
theorem dX4_misfitNow_64 : decode cX4_misfitNow 64 = .ok (.ifCond .le 8, 3) := dk_158 0 8 (dk_at dksX4_misfitNow_2 16 rfl rfl)
theorem dX4_misfitNow_67 : decode cX4_misfitNow 67 = .ok (.dload 6, 2) := dk_24 6 (dk_at dksX4_misfitNow_2 19 rfl rfl)
theorem dX4_misfitNow_69 : decode cX4_misfitNow 69 = .ok (.goto 4, 3) := dk_167 0 4 (dk_at dksX4_misfitNow_2 21 rfl rfl)
theorem dX4_misfitNow_72 : decode cX4_misfitNow 72 = .ok (.dload_n 1, 1) := dk_39 (dk_at dksX4_misfitNow_3 0 rfl rfl)
theorem dX4_misfitNow_73 : decode cX4_misfitNow 73 = .ok (.dstore_n 1, 1) := dk_72 (dk_at dksX4_misfitNow_3 1 rfl rfl)
theorem dX4_misfitNow_74 : decode cX4_misfitNow 74 = .ok (.iinc 3 1, 3) := dk_132 3 1 (dk_at dksX4_misfitNow_3 2 rfl rfl)
theorem dX4_misfitNow_77 : decode cX4_misfitNow 77 = .ok (.goto (-73), 3) := dk_167 255 183 (dk_at dksX4_misfitNow_3 5 rfl rfl)
theorem dX4_misfitNow_80 : decode cX4_misfitNow 80 = .ok (.dload_n 1, 1) := dk_39 (dk_at dksX4_misfitNow_3 8 rfl rfl)
theorem dX4_misfitNow_81 : decode cX4_misfitNow 81 = .ok (.dreturn, 1) := dk_175 (dk_at dksX4_misfitNow_3 9 rfl rfl)
abbrev cX4_far : ByteArray := prog_11_method_28_code
def yX4_far : MethodName := ⟨RX4, "far", "(DD)D"⟩
def dkwX4_far_0 : List UInt8 := [38, 40, 151, 158, 0, 9, 38, 40, 103, 167, 0, 6, 40, 38, 103, 175]
abbrev dktX4_far_0 : List UInt8 := dkwX4_far_0 ++ []
theorem dksX4_far_0 : cX4_far.data.toList.drop 0 = dktX4_far_0 := by decide +kernel
theorem dX4_far_0 : decode cX4_far 0 = .ok (.dload_n 0, 1) := dk_38 (dk_at dksX4_far_0 0 rfl rfl)
theorem dX4_far_1 : decode cX4_far 1 = .ok (.dload_n 2, 1) := dk_40 (dk_at dksX4_far_0 1 rfl rfl)
theorem dX4_far_2 : decode cX4_far 2 = .ok (.dcmp .l, 1) := dk_151 (dk_at dksX4_far_0 2 rfl rfl)
theorem dX4_far_3 : decode cX4_far 3 = .ok (.ifCond .le 9, 3) := dk_158 0 9 (dk_at dksX4_far_0 3 rfl rfl)
theorem dX4_far_6 : decode cX4_far 6 = .ok (.dload_n 0, 1) := dk_38 (dk_at dksX4_far_0 6 rfl rfl)
theorem dX4_far_7 : decode cX4_far 7 = .ok (.dload_n 2, 1) := dk_40 (dk_at dksX4_far_0 7 rfl rfl)
theorem dX4_far_8 : decode cX4_far 8 = .ok (.dsub, 1) := dk_103 (dk_at dksX4_far_0 8 rfl rfl)
theorem dX4_far_9 : decode cX4_far 9 = .ok (.goto 6, 3) := dk_167 0 6 (dk_at dksX4_far_0 9 rfl rfl)
theorem dX4_far_12 : decode cX4_far 12 = .ok (.dload_n 2, 1) := dk_40 (dk_at dksX4_far_0 12 rfl rfl)
theorem dX4_far_13 : decode cX4_far 13 = .ok (.dload_n 0, 1) := dk_38 (dk_at dksX4_far_0 13 rfl rfl)
theorem dX4_far_14 : decode cX4_far 14 = .ok (.dsub, 1) := dk_103 (dk_at dksX4_far_0 14 rfl rfl)
theorem dX4_far_15 : decode cX4_far 15 = .ok (.dreturn, 1) := dk_175 (dk_at dksX4_far_0 15 rfl rfl)
abbrev cX4_reset : ByteArray := prog_11_method_32_code
def yX4_reset : MethodName := ⟨RX4, "reset", "()I"⟩
def dkwX4_reset_0 : List UInt8 := [42, 3, 181, 0, 45, 42, 180, 0, 52, 60, 42, 182, 0, 55, 27, 172]
abbrev dktX4_reset_0 : List UInt8 := dkwX4_reset_0 ++ []
theorem dksX4_reset_0 : cX4_reset.data.toList.drop 0 = dktX4_reset_0 := by decide +kernel
theorem dX4_reset_0 : decode cX4_reset 0 = .ok (.aload_n 0, 1) := dk_42 (dk_at dksX4_reset_0 0 rfl rfl)
theorem dX4_reset_1 : decode cX4_reset 1 = .ok (.iconst 0, 1) := dk_3 (dk_at dksX4_reset_0 1 rfl rfl)
theorem dX4_reset_2 : decode cX4_reset 2 = .ok (.putfield 45, 3) := dk_181 0 45 (dk_at dksX4_reset_0 2 rfl rfl)
theorem dX4_reset_5 : decode cX4_reset 5 = .ok (.aload_n 0, 1) := dk_42 (dk_at dksX4_reset_0 5 rfl rfl)
theorem dX4_reset_6 : decode cX4_reset 6 = .ok (.getfield 52, 3) := dk_180 0 52 (dk_at dksX4_reset_0 6 rfl rfl)
theorem dX4_reset_9 : decode cX4_reset 9 = .ok (.istore_n 1, 1) := dk_60 (dk_at dksX4_reset_0 9 rfl rfl)
theorem dX4_reset_10 : decode cX4_reset 10 = .ok (.aload_n 0, 1) := dk_42 (dk_at dksX4_reset_0 10 rfl rfl)
theorem dX4_reset_11 : decode cX4_reset 11 = .ok (.invokevirtual 55, 3) := dk_182 0 55 (dk_at dksX4_reset_0 11 rfl rfl)
theorem dX4_reset_14 : decode cX4_reset 14 = .ok (.iload_n 1, 1) := dk_27 (dk_at dksX4_reset_0 14 rfl rfl)
theorem dX4_reset_15 : decode cX4_reset 15 = .ok (.ireturn, 1) := dk_172 (dk_at dksX4_reset_0 15 rfl rfl)
abbrev cX4_rounds : ByteArray := prog_11_method_33_code
def yX4_rounds : MethodName := ⟨RX4, "rounds", "()I"⟩
def dkwX4_rounds_0 : List UInt8 := [42, 3, 181, 0, 45, 42, 180, 0, 52, 172]
abbrev dktX4_rounds_0 : List UInt8 := dkwX4_rounds_0 ++ []
theorem dksX4_rounds_0 : cX4_rounds.data.toList.drop 0 = dktX4_rounds_0 := by decide +kernel
theorem dX4_rounds_0 : decode cX4_rounds 0 = .ok (.aload_n 0, 1) := dk_42 (dk_at dksX4_rounds_0 0 rfl rfl)
theorem dX4_rounds_1 : decode cX4_rounds 1 = .ok (.iconst 0, 1) := dk_3 (dk_at dksX4_rounds_0 1 rfl rfl)
theorem dX4_rounds_2 : decode cX4_rounds 2 = .ok (.putfield 45, 3) := dk_181 0 45 (dk_at dksX4_rounds_0 2 rfl rfl)
theorem dX4_rounds_5 : decode cX4_rounds 5 = .ok (.aload_n 0, 1) := dk_42 (dk_at dksX4_rounds_0 5 rfl rfl)
theorem dX4_rounds_6 : decode cX4_rounds 6 = .ok (.getfield 52, 3) := dk_180 0 52 (dk_at dksX4_rounds_0 6 rfl rfl)
theorem dX4_rounds_9 : decode cX4_rounds 9 = .ok (.ireturn, 1) := dk_172 (dk_at dksX4_rounds_0 9 rfl rfl)
abbrev cX4_estimate : ByteArray := prog_11_method_35_code
def yX4_estimate : MethodName := ⟨RX4, "estimate", "(II)D"⟩
def dkwX4_estimate_1 : List UInt8 := [158, 0, 7, 14, 167, 0, 14, 42, 180, 0, 23, 16, 6, 27, 104, 28, 96, 49, 175]
abbrev dktX4_estimate_1 : List UInt8 := dkwX4_estimate_1 ++ []
def dkwX4_estimate_0 : List UInt8 := [42, 42, 27, 28, 182, 0, 112, 153, 0, 7, 3, 167, 0, 4, 4, 181, 0, 45, 42, 180, 0, 45]
abbrev dktX4_estimate_0 : List UInt8 := dkwX4_estimate_0 ++ dktX4_estimate_1
theorem dksX4_estimate_0 : cX4_estimate.data.toList.drop 0 = dktX4_estimate_0 := by decide +kernel
theorem dksX4_estimate_1 : cX4_estimate.data.toList.drop 22 = dktX4_estimate_1 := dk_seg dksX4_estimate_0 22 rfl rfl
theorem dX4_estimate_0 : decode cX4_estimate 0 = .ok (.aload_n 0, 1) := dk_42 (dk_at dksX4_estimate_0 0 rfl rfl)
theorem dX4_estimate_1 : decode cX4_estimate 1 = .ok (.aload_n 0, 1) := dk_42 (dk_at dksX4_estimate_0 1 rfl rfl)
theorem dX4_estimate_2 : decode cX4_estimate 2 = .ok (.iload_n 1, 1) := dk_27 (dk_at dksX4_estimate_0 2 rfl rfl)
theorem dX4_estimate_3 : decode cX4_estimate 3 = .ok (.iload_n 2, 1) := dk_28 (dk_at dksX4_estimate_0 3 rfl rfl)
theorem dX4_estimate_4 : decode cX4_estimate 4 = .ok (.invokevirtual 112, 3) := dk_182 0 112 (dk_at dksX4_estimate_0 4 rfl rfl)
theorem dX4_estimate_7 : decode cX4_estimate 7 = .ok (.ifCond .eq 7, 3) := dk_153 0 7 (dk_at dksX4_estimate_0 7 rfl rfl)
theorem dX4_estimate_10 : decode cX4_estimate 10 = .ok (.iconst 0, 1) := dk_3 (dk_at dksX4_estimate_0 10 rfl rfl)
theorem dX4_estimate_11 : decode cX4_estimate 11 = .ok (.goto 4, 3) := dk_167 0 4 (dk_at dksX4_estimate_0 11 rfl rfl)
theorem dX4_estimate_14 : decode cX4_estimate 14 = .ok (.iconst 1, 1) := dk_4 (dk_at dksX4_estimate_0 14 rfl rfl)
theorem dX4_estimate_15 : decode cX4_estimate 15 = .ok (.putfield 45, 3) := dk_181 0 45 (dk_at dksX4_estimate_0 15 rfl rfl)
theorem dX4_estimate_18 : decode cX4_estimate 18 = .ok (.aload_n 0, 1) := dk_42 (dk_at dksX4_estimate_0 18 rfl rfl)
theorem dX4_estimate_19 : decode cX4_estimate 19 = .ok (.getfield 45, 3) := dk_180 0 45 (dk_at dksX4_estimate_0 19 rfl rfl)
theorem dX4_estimate_22 : decode cX4_estimate 22 = .ok (.ifCond .le 7, 3) := dk_158 0 7 (dk_at dksX4_estimate_1 0 rfl rfl)
theorem dX4_estimate_25 : decode cX4_estimate 25 = .ok (.dconst 0, 1) := dk_14 (dk_at dksX4_estimate_1 3 rfl rfl)
theorem dX4_estimate_26 : decode cX4_estimate 26 = .ok (.goto 14, 3) := dk_167 0 14 (dk_at dksX4_estimate_1 4 rfl rfl)
theorem dX4_estimate_29 : decode cX4_estimate 29 = .ok (.aload_n 0, 1) := dk_42 (dk_at dksX4_estimate_1 7 rfl rfl)
theorem dX4_estimate_30 : decode cX4_estimate 30 = .ok (.getfield 23, 3) := dk_180 0 23 (dk_at dksX4_estimate_1 8 rfl rfl)
theorem dX4_estimate_33 : decode cX4_estimate 33 = .ok (.bipush 6, 2) := dk_16 6 (dk_at dksX4_estimate_1 11 rfl rfl)
theorem dX4_estimate_35 : decode cX4_estimate 35 = .ok (.iload_n 1, 1) := dk_27 (dk_at dksX4_estimate_1 13 rfl rfl)
theorem dX4_estimate_36 : decode cX4_estimate 36 = .ok (.imul, 1) := dk_104 (dk_at dksX4_estimate_1 14 rfl rfl)
theorem dX4_estimate_37 : decode cX4_estimate 37 = .ok (.iload_n 2, 1) := dk_28 (dk_at dksX4_estimate_1 15 rfl rfl)
theorem dX4_estimate_38 : decode cX4_estimate 38 = .ok (.iadd, 1) := dk_96 (dk_at dksX4_estimate_1 16 rfl rfl)
theorem dX4_estimate_39 : decode cX4_estimate 39 = .ok (.daload, 1) := dk_49 (dk_at dksX4_estimate_1 17 rfl rfl)
theorem dX4_estimate_40 : decode cX4_estimate 40 = .ok (.dreturn, 1) := dk_175 (dk_at dksX4_estimate_1 18 rfl rfl)
abbrev cX4_areArms : ByteArray := prog_11_method_34_code
def yX4_areArms : MethodName := ⟨RX4, "areArms", "(II)Z"⟩
def dkwX4_areArms_0 : List UInt8 := [42, 27, 182, 0, 58, 153, 0, 15, 42, 28, 182, 0, 58, 153, 0, 7, 4, 167, 0, 4, 3, 172]
abbrev dktX4_areArms_0 : List UInt8 := dkwX4_areArms_0 ++ []
theorem dksX4_areArms_0 : cX4_areArms.data.toList.drop 0 = dktX4_areArms_0 := by decide +kernel
theorem dX4_areArms_0 : decode cX4_areArms 0 = .ok (.aload_n 0, 1) := dk_42 (dk_at dksX4_areArms_0 0 rfl rfl)
theorem dX4_areArms_1 : decode cX4_areArms 1 = .ok (.iload_n 1, 1) := dk_27 (dk_at dksX4_areArms_0 1 rfl rfl)
theorem dX4_areArms_2 : decode cX4_areArms 2 = .ok (.invokevirtual 58, 3) := dk_182 0 58 (dk_at dksX4_areArms_0 2 rfl rfl)
theorem dX4_areArms_5 : decode cX4_areArms 5 = .ok (.ifCond .eq 15, 3) := dk_153 0 15 (dk_at dksX4_areArms_0 5 rfl rfl)
theorem dX4_areArms_8 : decode cX4_areArms 8 = .ok (.aload_n 0, 1) := dk_42 (dk_at dksX4_areArms_0 8 rfl rfl)
theorem dX4_areArms_9 : decode cX4_areArms 9 = .ok (.iload_n 2, 1) := dk_28 (dk_at dksX4_areArms_0 9 rfl rfl)
theorem dX4_areArms_10 : decode cX4_areArms 10 = .ok (.invokevirtual 58, 3) := dk_182 0 58 (dk_at dksX4_areArms_0 10 rfl rfl)
theorem dX4_areArms_13 : decode cX4_areArms 13 = .ok (.ifCond .eq 7, 3) := dk_153 0 7 (dk_at dksX4_areArms_0 13 rfl rfl)
theorem dX4_areArms_16 : decode cX4_areArms 16 = .ok (.iconst 1, 1) := dk_4 (dk_at dksX4_areArms_0 16 rfl rfl)
theorem dX4_areArms_17 : decode cX4_areArms 17 = .ok (.goto 4, 3) := dk_167 0 4 (dk_at dksX4_areArms_0 17 rfl rfl)
theorem dX4_areArms_20 : decode cX4_areArms 20 = .ok (.iconst 0, 1) := dk_3 (dk_at dksX4_areArms_0 20 rfl rfl)
theorem dX4_areArms_21 : decode cX4_areArms 21 = .ok (.ireturn, 1) := dk_172 (dk_at dksX4_areArms_0 21 rfl rfl)
abbrev cX4_sum : ByteArray := prog_11_method_36_code
def yX4_sum : MethodName := ⟨RX4, "sum", "(IZ)D"⟩
def dkwX4_sum_1 : List UInt8 := [14, 167, 0, 20, 28, 153, 0, 11, 42, 27, 182, 0, 88, 167, 0, 8, 42, 27, 182, 0, 84, 175]
abbrev dktX4_sum_1 : List UInt8 := dkwX4_sum_1 ++ []
def dkwX4_sum_0 : List UInt8 := [42, 42, 27, 182, 0, 58, 153, 0, 7, 3, 167, 0, 4, 4, 181, 0, 45, 42, 180, 0, 45, 158, 0, 7]
abbrev dktX4_sum_0 : List UInt8 := dkwX4_sum_0 ++ dktX4_sum_1
theorem dksX4_sum_0 : cX4_sum.data.toList.drop 0 = dktX4_sum_0 := by decide +kernel
theorem dksX4_sum_1 : cX4_sum.data.toList.drop 24 = dktX4_sum_1 := dk_seg dksX4_sum_0 24 rfl rfl
theorem dX4_sum_0 : decode cX4_sum 0 = .ok (.aload_n 0, 1) := dk_42 (dk_at dksX4_sum_0 0 rfl rfl)
theorem dX4_sum_1 : decode cX4_sum 1 = .ok (.aload_n 0, 1) := dk_42 (dk_at dksX4_sum_0 1 rfl rfl)
theorem dX4_sum_2 : decode cX4_sum 2 = .ok (.iload_n 1, 1) := dk_27 (dk_at dksX4_sum_0 2 rfl rfl)
theorem dX4_sum_3 : decode cX4_sum 3 = .ok (.invokevirtual 58, 3) := dk_182 0 58 (dk_at dksX4_sum_0 3 rfl rfl)
theorem dX4_sum_6 : decode cX4_sum 6 = .ok (.ifCond .eq 7, 3) := dk_153 0 7 (dk_at dksX4_sum_0 6 rfl rfl)
theorem dX4_sum_9 : decode cX4_sum 9 = .ok (.iconst 0, 1) := dk_3 (dk_at dksX4_sum_0 9 rfl rfl)
theorem dX4_sum_10 : decode cX4_sum 10 = .ok (.goto 4, 3) := dk_167 0 4 (dk_at dksX4_sum_0 10 rfl rfl)
theorem dX4_sum_13 : decode cX4_sum 13 = .ok (.iconst 1, 1) := dk_4 (dk_at dksX4_sum_0 13 rfl rfl)
theorem dX4_sum_14 : decode cX4_sum 14 = .ok (.putfield 45, 3) := dk_181 0 45 (dk_at dksX4_sum_0 14 rfl rfl)
theorem dX4_sum_17 : decode cX4_sum 17 = .ok (.aload_n 0, 1) := dk_42 (dk_at dksX4_sum_0 17 rfl rfl)
theorem dX4_sum_18 : decode cX4_sum 18 = .ok (.getfield 45, 3) := dk_180 0 45 (dk_at dksX4_sum_0 18 rfl rfl)
theorem dX4_sum_21 : decode cX4_sum 21 = .ok (.ifCond .le 7, 3) := dk_158 0 7 (dk_at dksX4_sum_0 21 rfl rfl)
theorem dX4_sum_24 : decode cX4_sum 24 = .ok (.dconst 0, 1) := dk_14 (dk_at dksX4_sum_1 0 rfl rfl)
theorem dX4_sum_25 : decode cX4_sum 25 = .ok (.goto 20, 3) := dk_167 0 20 (dk_at dksX4_sum_1 1 rfl rfl)
theorem dX4_sum_28 : decode cX4_sum 28 = .ok (.iload_n 2, 1) := dk_28 (dk_at dksX4_sum_1 4 rfl rfl)
theorem dX4_sum_29 : decode cX4_sum 29 = .ok (.ifCond .eq 11, 3) := dk_153 0 11 (dk_at dksX4_sum_1 5 rfl rfl)
theorem dX4_sum_32 : decode cX4_sum 32 = .ok (.aload_n 0, 1) := dk_42 (dk_at dksX4_sum_1 8 rfl rfl)
theorem dX4_sum_33 : decode cX4_sum 33 = .ok (.iload_n 1, 1) := dk_27 (dk_at dksX4_sum_1 9 rfl rfl)
theorem dX4_sum_34 : decode cX4_sum 34 = .ok (.invokevirtual 88, 3) := dk_182 0 88 (dk_at dksX4_sum_1 10 rfl rfl)
theorem dX4_sum_37 : decode cX4_sum 37 = .ok (.goto 8, 3) := dk_167 0 8 (dk_at dksX4_sum_1 13 rfl rfl)
theorem dX4_sum_40 : decode cX4_sum 40 = .ok (.aload_n 0, 1) := dk_42 (dk_at dksX4_sum_1 16 rfl rfl)
theorem dX4_sum_41 : decode cX4_sum 41 = .ok (.iload_n 1, 1) := dk_27 (dk_at dksX4_sum_1 17 rfl rfl)
theorem dX4_sum_42 : decode cX4_sum 42 = .ok (.invokevirtual 84, 3) := dk_182 0 84 (dk_at dksX4_sum_1 18 rfl rfl)
theorem dX4_sum_45 : decode cX4_sum 45 = .ok (.dreturn, 1) := dk_175 (dk_at dksX4_sum_1 21 rfl rfl)
abbrev cX4_misfit : ByteArray := prog_11_method_37_code
def yX4_misfit : MethodName := ⟨RX4, "misfit", "()D"⟩
def dkwX4_misfit_0 : List UInt8 := [42, 3, 181, 0, 45, 42, 182, 0, 106, 175]
abbrev dktX4_misfit_0 : List UInt8 := dkwX4_misfit_0 ++ []
theorem dksX4_misfit_0 : cX4_misfit.data.toList.drop 0 = dktX4_misfit_0 := by decide +kernel
theorem dX4_misfit_0 : decode cX4_misfit 0 = .ok (.aload_n 0, 1) := dk_42 (dk_at dksX4_misfit_0 0 rfl rfl)
theorem dX4_misfit_1 : decode cX4_misfit 1 = .ok (.iconst 0, 1) := dk_3 (dk_at dksX4_misfit_0 1 rfl rfl)
theorem dX4_misfit_2 : decode cX4_misfit 2 = .ok (.putfield 45, 3) := dk_181 0 45 (dk_at dksX4_misfit_0 2 rfl rfl)
theorem dX4_misfit_5 : decode cX4_misfit 5 = .ok (.aload_n 0, 1) := dk_42 (dk_at dksX4_misfit_0 5 rfl rfl)
theorem dX4_misfit_6 : decode cX4_misfit 6 = .ok (.invokevirtual 106, 3) := dk_182 0 106 (dk_at dksX4_misfit_0 6 rfl rfl)
theorem dX4_misfit_9 : decode cX4_misfit 9 = .ok (.dreturn, 1) := dk_175 (dk_at dksX4_misfit_0 9 rfl rfl)
abbrev cX4_share : ByteArray := prog_11_method_38_code
def yX4_share : MethodName := ⟨RX4, "share", "(II)D"⟩
def dkwX4_share_2 : List UInt8 := [104, 28, 96, 49, 42, 27, 182, 0, 84, 111, 175]
abbrev dktX4_share_2 : List UInt8 := dkwX4_share_2 ++ []
def dkwX4_share_1 : List UInt8 := [157, 0, 13, 42, 27, 182, 0, 84, 14, 151, 157, 0, 7, 14, 167, 0, 20, 42, 180, 0, 23, 16, 6, 27]
abbrev dktX4_share_1 : List UInt8 := dkwX4_share_1 ++ dktX4_share_2
def dkwX4_share_0 : List UInt8 := [42, 42, 27, 28, 182, 0, 112, 153, 0, 7, 3, 167, 0, 4, 4, 181, 0, 45, 42, 180, 0, 45]
abbrev dktX4_share_0 : List UInt8 := dkwX4_share_0 ++ dktX4_share_1
theorem dksX4_share_0 : cX4_share.data.toList.drop 0 = dktX4_share_0 := by decide +kernel
theorem dksX4_share_1 : cX4_share.data.toList.drop 22 = dktX4_share_1 := dk_seg dksX4_share_0 22 rfl rfl
theorem dksX4_share_2 : cX4_share.data.toList.drop 46 = dktX4_share_2 := dk_seg dksX4_share_1 24 rfl rfl
theorem dX4_share_0 : decode cX4_share 0 = .ok (.aload_n 0, 1) := dk_42 (dk_at dksX4_share_0 0 rfl rfl)
theorem dX4_share_1 : decode cX4_share 1 = .ok (.aload_n 0, 1) := dk_42 (dk_at dksX4_share_0 1 rfl rfl)
theorem dX4_share_2 : decode cX4_share 2 = .ok (.iload_n 1, 1) := dk_27 (dk_at dksX4_share_0 2 rfl rfl)
theorem dX4_share_3 : decode cX4_share 3 = .ok (.iload_n 2, 1) := dk_28 (dk_at dksX4_share_0 3 rfl rfl)
theorem dX4_share_4 : decode cX4_share 4 = .ok (.invokevirtual 112, 3) := dk_182 0 112 (dk_at dksX4_share_0 4 rfl rfl)
theorem dX4_share_7 : decode cX4_share 7 = .ok (.ifCond .eq 7, 3) := dk_153 0 7 (dk_at dksX4_share_0 7 rfl rfl)
theorem dX4_share_10 : decode cX4_share 10 = .ok (.iconst 0, 1) := dk_3 (dk_at dksX4_share_0 10 rfl rfl)
theorem dX4_share_11 : decode cX4_share 11 = .ok (.goto 4, 3) := dk_167 0 4 (dk_at dksX4_share_0 11 rfl rfl)
theorem dX4_share_14 : decode cX4_share 14 = .ok (.iconst 1, 1) := dk_4 (dk_at dksX4_share_0 14 rfl rfl)
theorem dX4_share_15 : decode cX4_share 15 = .ok (.putfield 45, 3) := dk_181 0 45 (dk_at dksX4_share_0 15 rfl rfl)
theorem dX4_share_18 : decode cX4_share 18 = .ok (.aload_n 0, 1) := dk_42 (dk_at dksX4_share_0 18 rfl rfl)
theorem dX4_share_19 : decode cX4_share 19 = .ok (.getfield 45, 3) := dk_180 0 45 (dk_at dksX4_share_0 19 rfl rfl)
theorem dX4_share_22 : decode cX4_share 22 = .ok (.ifCond .gt 13, 3) := dk_157 0 13 (dk_at dksX4_share_1 0 rfl rfl)
theorem dX4_share_25 : decode cX4_share 25 = .ok (.aload_n 0, 1) := dk_42 (dk_at dksX4_share_1 3 rfl rfl)
theorem dX4_share_26 : decode cX4_share 26 = .ok (.iload_n 1, 1) := dk_27 (dk_at dksX4_share_1 4 rfl rfl)
theorem dX4_share_27 : decode cX4_share 27 = .ok (.invokevirtual 84, 3) := dk_182 0 84 (dk_at dksX4_share_1 5 rfl rfl)
theorem dX4_share_30 : decode cX4_share 30 = .ok (.dconst 0, 1) := dk_14 (dk_at dksX4_share_1 8 rfl rfl)
theorem dX4_share_31 : decode cX4_share 31 = .ok (.dcmp .l, 1) := dk_151 (dk_at dksX4_share_1 9 rfl rfl)
theorem dX4_share_32 : decode cX4_share 32 = .ok (.ifCond .gt 7, 3) := dk_157 0 7 (dk_at dksX4_share_1 10 rfl rfl)
theorem dX4_share_35 : decode cX4_share 35 = .ok (.dconst 0, 1) := dk_14 (dk_at dksX4_share_1 13 rfl rfl)
theorem dX4_share_36 : decode cX4_share 36 = .ok (.goto 20, 3) := dk_167 0 20 (dk_at dksX4_share_1 14 rfl rfl)
theorem dX4_share_39 : decode cX4_share 39 = .ok (.aload_n 0, 1) := dk_42 (dk_at dksX4_share_1 17 rfl rfl)
theorem dX4_share_40 : decode cX4_share 40 = .ok (.getfield 23, 3) := dk_180 0 23 (dk_at dksX4_share_1 18 rfl rfl)
theorem dX4_share_43 : decode cX4_share 43 = .ok (.bipush 6, 2) := dk_16 6 (dk_at dksX4_share_1 21 rfl rfl)
theorem dX4_share_45 : decode cX4_share 45 = .ok (.iload_n 1, 1) := dk_27 (dk_at dksX4_share_1 23 rfl rfl)
theorem dX4_share_46 : decode cX4_share 46 = .ok (.imul, 1) := dk_104 (dk_at dksX4_share_2 0 rfl rfl)
theorem dX4_share_47 : decode cX4_share 47 = .ok (.iload_n 2, 1) := dk_28 (dk_at dksX4_share_2 1 rfl rfl)
theorem dX4_share_48 : decode cX4_share 48 = .ok (.iadd, 1) := dk_96 (dk_at dksX4_share_2 2 rfl rfl)
theorem dX4_share_49 : decode cX4_share 49 = .ok (.daload, 1) := dk_49 (dk_at dksX4_share_2 3 rfl rfl)
theorem dX4_share_50 : decode cX4_share 50 = .ok (.aload_n 0, 1) := dk_42 (dk_at dksX4_share_2 4 rfl rfl)
theorem dX4_share_51 : decode cX4_share 51 = .ok (.iload_n 1, 1) := dk_27 (dk_at dksX4_share_2 5 rfl rfl)
theorem dX4_share_52 : decode cX4_share 52 = .ok (.invokevirtual 84, 3) := dk_182 0 84 (dk_at dksX4_share_2 6 rfl rfl)
theorem dX4_share_55 : decode cX4_share 55 = .ok (.ddiv, 1) := dk_111 (dk_at dksX4_share_2 9 rfl rfl)
theorem dX4_share_56 : decode cX4_share 56 = .ok (.dreturn, 1) := dk_175 (dk_at dksX4_share_2 10 rfl rfl)
abbrev cX4_crossRatio : ByteArray := prog_11_method_39_code
def yX4_crossRatio : MethodName := ⟨RX4, "crossRatio", "(IIII)D"⟩
def dkwX4_crossRatio_5 : List UInt8 := [24, 7, 111, 175]
abbrev dktX4_crossRatio_5 : List UInt8 := dkwX4_crossRatio_5 ++ []
def dkwX4_crossRatio_4 : List UInt8 := [158, 0, 7, 3, 167, 0, 4, 5, 181, 0, 45, 42, 180, 0, 45, 158, 0, 7, 14, 167, 0, 8, 24, 5]
abbrev dktX4_crossRatio_4 : List UInt8 := dkwX4_crossRatio_4 ++ dktX4_crossRatio_5
def dkwX4_crossRatio_3 : List UInt8 := [21, 4, 96, 49, 42, 180, 0, 23, 16, 6, 28, 104, 29, 96, 49, 107, 57, 7, 42, 24, 7, 14, 151]
abbrev dktX4_crossRatio_3 : List UInt8 := dkwX4_crossRatio_3 ++ dktX4_crossRatio_4
def dkwX4_crossRatio_2 : List UInt8 := [42, 180, 0, 23, 16, 6, 28, 104, 21, 4, 96, 49, 107, 57, 5, 42, 180, 0, 23, 16, 6, 27, 104]
abbrev dktX4_crossRatio_2 : List UInt8 := dkwX4_crossRatio_2 ++ dktX4_crossRatio_3
def dkwX4_crossRatio_1 : List UInt8 := [4, 181, 0, 45, 42, 180, 0, 45, 158, 0, 5, 14, 175, 42, 180, 0, 23, 16, 6, 27, 104, 29, 96, 49]
abbrev dktX4_crossRatio_1 : List UInt8 := dkwX4_crossRatio_1 ++ dktX4_crossRatio_2
def dkwX4_crossRatio_0 : List UInt8 := [42, 42, 27, 28, 182, 0, 112, 153, 0, 17, 42, 29, 21, 4, 182, 0, 112, 153, 0, 7, 3, 167, 0, 4]
abbrev dktX4_crossRatio_0 : List UInt8 := dkwX4_crossRatio_0 ++ dktX4_crossRatio_1
theorem dksX4_crossRatio_0 : cX4_crossRatio.data.toList.drop 0 = dktX4_crossRatio_0 := by decide +kernel
theorem dksX4_crossRatio_1 : cX4_crossRatio.data.toList.drop 24 = dktX4_crossRatio_1 := dk_seg dksX4_crossRatio_0 24 rfl rfl
theorem dksX4_crossRatio_2 : cX4_crossRatio.data.toList.drop 48 = dktX4_crossRatio_2 := dk_seg dksX4_crossRatio_1 24 rfl rfl
theorem dksX4_crossRatio_3 : cX4_crossRatio.data.toList.drop 71 = dktX4_crossRatio_3 := dk_seg dksX4_crossRatio_2 23 rfl rfl
theorem dksX4_crossRatio_4 : cX4_crossRatio.data.toList.drop 94 = dktX4_crossRatio_4 := dk_seg dksX4_crossRatio_3 23 rfl rfl
theorem dksX4_crossRatio_5 : cX4_crossRatio.data.toList.drop 118 = dktX4_crossRatio_5 := dk_seg dksX4_crossRatio_4 24 rfl rfl
theorem dX4_crossRatio_0 : decode cX4_crossRatio 0 = .ok (.aload_n 0, 1) := dk_42 (dk_at dksX4_crossRatio_0 0 rfl rfl)
theorem dX4_crossRatio_1 : decode cX4_crossRatio 1 = .ok (.aload_n 0, 1) := dk_42 (dk_at dksX4_crossRatio_0 1 rfl rfl)
theorem dX4_crossRatio_2 : decode cX4_crossRatio 2 = .ok (.iload_n 1, 1) := dk_27 (dk_at dksX4_crossRatio_0 2 rfl rfl)
theorem dX4_crossRatio_3 : decode cX4_crossRatio 3 = .ok (.iload_n 2, 1) := dk_28 (dk_at dksX4_crossRatio_0 3 rfl rfl)
theorem dX4_crossRatio_4 : decode cX4_crossRatio 4 = .ok (.invokevirtual 112, 3) := dk_182 0 112 (dk_at dksX4_crossRatio_0 4 rfl rfl)
theorem dX4_crossRatio_7 : decode cX4_crossRatio 7 = .ok (.ifCond .eq 17, 3) := dk_153 0 17 (dk_at dksX4_crossRatio_0 7 rfl rfl)
theorem dX4_crossRatio_10 : decode cX4_crossRatio 10 = .ok (.aload_n 0, 1) := dk_42 (dk_at dksX4_crossRatio_0 10 rfl rfl)
theorem dX4_crossRatio_11 : decode cX4_crossRatio 11 = .ok (.iload_n 3, 1) := dk_29 (dk_at dksX4_crossRatio_0 11 rfl rfl)
theorem dX4_crossRatio_12 : decode cX4_crossRatio 12 = .ok (.iload 4, 2) := dk_21 4 (dk_at dksX4_crossRatio_0 12 rfl rfl)
theorem dX4_crossRatio_14 : decode cX4_crossRatio 14 = .ok (.invokevirtual 112, 3) := dk_182 0 112 (dk_at dksX4_crossRatio_0 14 rfl rfl)
theorem dX4_crossRatio_17 : decode cX4_crossRatio 17 = .ok (.ifCond .eq 7, 3) := dk_153 0 7 (dk_at dksX4_crossRatio_0 17 rfl rfl)
theorem dX4_crossRatio_20 : decode cX4_crossRatio 20 = .ok (.iconst 0, 1) := dk_3 (dk_at dksX4_crossRatio_0 20 rfl rfl)
theorem dX4_crossRatio_21 : decode cX4_crossRatio 21 = .ok (.goto 4, 3) := dk_167 0 4 (dk_at dksX4_crossRatio_0 21 rfl rfl)
theorem dX4_crossRatio_24 : decode cX4_crossRatio 24 = .ok (.iconst 1, 1) := dk_4 (dk_at dksX4_crossRatio_1 0 rfl rfl)
theorem dX4_crossRatio_25 : decode cX4_crossRatio 25 = .ok (.putfield 45, 3) := dk_181 0 45 (dk_at dksX4_crossRatio_1 1 rfl rfl)
theorem dX4_crossRatio_28 : decode cX4_crossRatio 28 = .ok (.aload_n 0, 1) := dk_42 (dk_at dksX4_crossRatio_1 4 rfl rfl)
theorem dX4_crossRatio_29 : decode cX4_crossRatio 29 = .ok (.getfield 45, 3) := dk_180 0 45 (dk_at dksX4_crossRatio_1 5 rfl rfl)
theorem dX4_crossRatio_32 : decode cX4_crossRatio 32 = .ok (.ifCond .le 5, 3) := dk_158 0 5 (dk_at dksX4_crossRatio_1 8 rfl rfl)
theorem dX4_crossRatio_35 : decode cX4_crossRatio 35 = .ok (.dconst 0, 1) := dk_14 (dk_at dksX4_crossRatio_1 11 rfl rfl)
theorem dX4_crossRatio_36 : decode cX4_crossRatio 36 = .ok (.dreturn, 1) := dk_175 (dk_at dksX4_crossRatio_1 12 rfl rfl)
theorem dX4_crossRatio_37 : decode cX4_crossRatio 37 = .ok (.aload_n 0, 1) := dk_42 (dk_at dksX4_crossRatio_1 13 rfl rfl)
theorem dX4_crossRatio_38 : decode cX4_crossRatio 38 = .ok (.getfield 23, 3) := dk_180 0 23 (dk_at dksX4_crossRatio_1 14 rfl rfl)
theorem dX4_crossRatio_41 : decode cX4_crossRatio 41 = .ok (.bipush 6, 2) := dk_16 6 (dk_at dksX4_crossRatio_1 17 rfl rfl)
theorem dX4_crossRatio_43 : decode cX4_crossRatio 43 = .ok (.iload_n 1, 1) := dk_27 (dk_at dksX4_crossRatio_1 19 rfl rfl)
theorem dX4_crossRatio_44 : decode cX4_crossRatio 44 = .ok (.imul, 1) := dk_104 (dk_at dksX4_crossRatio_1 20 rfl rfl)
theorem dX4_crossRatio_45 : decode cX4_crossRatio 45 = .ok (.iload_n 3, 1) := dk_29 (dk_at dksX4_crossRatio_1 21 rfl rfl)
theorem dX4_crossRatio_46 : decode cX4_crossRatio 46 = .ok (.iadd, 1) := dk_96 (dk_at dksX4_crossRatio_1 22 rfl rfl)
theorem dX4_crossRatio_47 : decode cX4_crossRatio 47 = .ok (.daload, 1) := dk_49 (dk_at dksX4_crossRatio_1 23 rfl rfl)
theorem dX4_crossRatio_48 : decode cX4_crossRatio 48 = .ok (.aload_n 0, 1) := dk_42 (dk_at dksX4_crossRatio_2 0 rfl rfl)
theorem dX4_crossRatio_49 : decode cX4_crossRatio 49 = .ok (.getfield 23, 3) := dk_180 0 23 (dk_at dksX4_crossRatio_2 1 rfl rfl)
theorem dX4_crossRatio_52 : decode cX4_crossRatio 52 = .ok (.bipush 6, 2) := dk_16 6 (dk_at dksX4_crossRatio_2 4 rfl rfl)
theorem dX4_crossRatio_54 : decode cX4_crossRatio 54 = .ok (.iload_n 2, 1) := dk_28 (dk_at dksX4_crossRatio_2 6 rfl rfl)
theorem dX4_crossRatio_55 : decode cX4_crossRatio 55 = .ok (.imul, 1) := dk_104 (dk_at dksX4_crossRatio_2 7 rfl rfl)
theorem dX4_crossRatio_56 : decode cX4_crossRatio 56 = .ok (.iload 4, 2) := dk_21 4 (dk_at dksX4_crossRatio_2 8 rfl rfl)
theorem dX4_crossRatio_58 : decode cX4_crossRatio 58 = .ok (.iadd, 1) := dk_96 (dk_at dksX4_crossRatio_2 10 rfl rfl)
theorem dX4_crossRatio_59 : decode cX4_crossRatio 59 = .ok (.daload, 1) := dk_49 (dk_at dksX4_crossRatio_2 11 rfl rfl)
theorem dX4_crossRatio_60 : decode cX4_crossRatio 60 = .ok (.dmul, 1) := dk_107 (dk_at dksX4_crossRatio_2 12 rfl rfl)
theorem dX4_crossRatio_61 : decode cX4_crossRatio 61 = .ok (.dstore 5, 2) := dk_57 5 (dk_at dksX4_crossRatio_2 13 rfl rfl)
theorem dX4_crossRatio_63 : decode cX4_crossRatio 63 = .ok (.aload_n 0, 1) := dk_42 (dk_at dksX4_crossRatio_2 15 rfl rfl)
theorem dX4_crossRatio_64 : decode cX4_crossRatio 64 = .ok (.getfield 23, 3) := dk_180 0 23 (dk_at dksX4_crossRatio_2 16 rfl rfl)
theorem dX4_crossRatio_67 : decode cX4_crossRatio 67 = .ok (.bipush 6, 2) := dk_16 6 (dk_at dksX4_crossRatio_2 19 rfl rfl)
theorem dX4_crossRatio_69 : decode cX4_crossRatio 69 = .ok (.iload_n 1, 1) := dk_27 (dk_at dksX4_crossRatio_2 21 rfl rfl)
theorem dX4_crossRatio_70 : decode cX4_crossRatio 70 = .ok (.imul, 1) := dk_104 (dk_at dksX4_crossRatio_2 22 rfl rfl)
theorem dX4_crossRatio_71 : decode cX4_crossRatio 71 = .ok (.iload 4, 2) := dk_21 4 (dk_at dksX4_crossRatio_3 0 rfl rfl)
theorem dX4_crossRatio_73 : decode cX4_crossRatio 73 = .ok (.iadd, 1) := dk_96 (dk_at dksX4_crossRatio_3 2 rfl rfl)
theorem dX4_crossRatio_74 : decode cX4_crossRatio 74 = .ok (.daload, 1) := dk_49 (dk_at dksX4_crossRatio_3 3 rfl rfl)
theorem dX4_crossRatio_75 : decode cX4_crossRatio 75 = .ok (.aload_n 0, 1) := dk_42 (dk_at dksX4_crossRatio_3 4 rfl rfl)
theorem dX4_crossRatio_76 : decode cX4_crossRatio 76 = .ok (.getfield 23, 3) := dk_180 0 23 (dk_at dksX4_crossRatio_3 5 rfl rfl)
theorem dX4_crossRatio_79 : decode cX4_crossRatio 79 = .ok (.bipush 6, 2) := dk_16 6 (dk_at dksX4_crossRatio_3 8 rfl rfl)
theorem dX4_crossRatio_81 : decode cX4_crossRatio 81 = .ok (.iload_n 2, 1) := dk_28 (dk_at dksX4_crossRatio_3 10 rfl rfl)
theorem dX4_crossRatio_82 : decode cX4_crossRatio 82 = .ok (.imul, 1) := dk_104 (dk_at dksX4_crossRatio_3 11 rfl rfl)
theorem dX4_crossRatio_83 : decode cX4_crossRatio 83 = .ok (.iload_n 3, 1) := dk_29 (dk_at dksX4_crossRatio_3 12 rfl rfl)
theorem dX4_crossRatio_84 : decode cX4_crossRatio 84 = .ok (.iadd, 1) := dk_96 (dk_at dksX4_crossRatio_3 13 rfl rfl)
theorem dX4_crossRatio_85 : decode cX4_crossRatio 85 = .ok (.daload, 1) := dk_49 (dk_at dksX4_crossRatio_3 14 rfl rfl)
theorem dX4_crossRatio_86 : decode cX4_crossRatio 86 = .ok (.dmul, 1) := dk_107 (dk_at dksX4_crossRatio_3 15 rfl rfl)
theorem dX4_crossRatio_87 : decode cX4_crossRatio 87 = .ok (.dstore 7, 2) := dk_57 7 (dk_at dksX4_crossRatio_3 16 rfl rfl)
theorem dX4_crossRatio_89 : decode cX4_crossRatio 89 = .ok (.aload_n 0, 1) := dk_42 (dk_at dksX4_crossRatio_3 18 rfl rfl)
theorem dX4_crossRatio_90 : decode cX4_crossRatio 90 = .ok (.dload 7, 2) := dk_24 7 (dk_at dksX4_crossRatio_3 19 rfl rfl)
theorem dX4_crossRatio_92 : decode cX4_crossRatio 92 = .ok (.dconst 0, 1) := dk_14 (dk_at dksX4_crossRatio_3 21 rfl rfl)
theorem dX4_crossRatio_93 : decode cX4_crossRatio 93 = .ok (.dcmp .l, 1) := dk_151 (dk_at dksX4_crossRatio_3 22 rfl rfl)
theorem dX4_crossRatio_94 : decode cX4_crossRatio 94 = .ok (.ifCond .le 7, 3) := dk_158 0 7 (dk_at dksX4_crossRatio_4 0 rfl rfl)
theorem dX4_crossRatio_97 : decode cX4_crossRatio 97 = .ok (.iconst 0, 1) := dk_3 (dk_at dksX4_crossRatio_4 3 rfl rfl)
theorem dX4_crossRatio_98 : decode cX4_crossRatio 98 = .ok (.goto 4, 3) := dk_167 0 4 (dk_at dksX4_crossRatio_4 4 rfl rfl)
theorem dX4_crossRatio_101 : decode cX4_crossRatio 101 = .ok (.iconst 2, 1) := dk_5 (dk_at dksX4_crossRatio_4 7 rfl rfl)
theorem dX4_crossRatio_102 : decode cX4_crossRatio 102 = .ok (.putfield 45, 3) := dk_181 0 45 (dk_at dksX4_crossRatio_4 8 rfl rfl)
theorem dX4_crossRatio_105 : decode cX4_crossRatio 105 = .ok (.aload_n 0, 1) := dk_42 (dk_at dksX4_crossRatio_4 11 rfl rfl)
theorem dX4_crossRatio_106 : decode cX4_crossRatio 106 = .ok (.getfield 45, 3) := dk_180 0 45 (dk_at dksX4_crossRatio_4 12 rfl rfl)
theorem dX4_crossRatio_109 : decode cX4_crossRatio 109 = .ok (.ifCond .le 7, 3) := dk_158 0 7 (dk_at dksX4_crossRatio_4 15 rfl rfl)
theorem dX4_crossRatio_112 : decode cX4_crossRatio 112 = .ok (.dconst 0, 1) := dk_14 (dk_at dksX4_crossRatio_4 18 rfl rfl)
theorem dX4_crossRatio_113 : decode cX4_crossRatio 113 = .ok (.goto 8, 3) := dk_167 0 8 (dk_at dksX4_crossRatio_4 19 rfl rfl)
theorem dX4_crossRatio_116 : decode cX4_crossRatio 116 = .ok (.dload 5, 2) := dk_24 5 (dk_at dksX4_crossRatio_4 22 rfl rfl)
theorem dX4_crossRatio_118 : decode cX4_crossRatio 118 = .ok (.dload 7, 2) := dk_24 7 (dk_at dksX4_crossRatio_5 0 rfl rfl)
theorem dX4_crossRatio_120 : decode cX4_crossRatio 120 = .ok (.ddiv, 1) := dk_111 (dk_at dksX4_crossRatio_5 2 rfl rfl)
theorem dX4_crossRatio_121 : decode cX4_crossRatio 121 = .ok (.dreturn, 1) := dk_175 (dk_at dksX4_crossRatio_5 3 rfl rfl)
abbrev cX4_busiestTurn : ByteArray := prog_11_method_41_code
def yX4_busiestTurn : MethodName := ⟨RX4, "busiestTurn", "()I"⟩
def dkwX4_busiestTurn_0 : List UInt8 := [42, 3, 181, 0, 45, 42, 182, 0, 116, 172]
abbrev dktX4_busiestTurn_0 : List UInt8 := dkwX4_busiestTurn_0 ++ []
theorem dksX4_busiestTurn_0 : cX4_busiestTurn.data.toList.drop 0 = dktX4_busiestTurn_0 := by decide +kernel
theorem dX4_busiestTurn_0 : decode cX4_busiestTurn 0 = .ok (.aload_n 0, 1) := dk_42 (dk_at dksX4_busiestTurn_0 0 rfl rfl)
theorem dX4_busiestTurn_1 : decode cX4_busiestTurn 1 = .ok (.iconst 0, 1) := dk_3 (dk_at dksX4_busiestTurn_0 1 rfl rfl)
theorem dX4_busiestTurn_2 : decode cX4_busiestTurn 2 = .ok (.putfield 45, 3) := dk_181 0 45 (dk_at dksX4_busiestTurn_0 2 rfl rfl)
theorem dX4_busiestTurn_5 : decode cX4_busiestTurn 5 = .ok (.aload_n 0, 1) := dk_42 (dk_at dksX4_busiestTurn_0 5 rfl rfl)
theorem dX4_busiestTurn_6 : decode cX4_busiestTurn 6 = .ok (.invokevirtual 116, 3) := dk_182 0 116 (dk_at dksX4_busiestTurn_0 6 rfl rfl)
theorem dX4_busiestTurn_9 : decode cX4_busiestTurn 9 = .ok (.ireturn, 1) := dk_172 (dk_at dksX4_busiestTurn_0 9 rfl rfl)
abbrev cX4_busiest : ByteArray := prog_11_method_40_code
def yX4_busiest : MethodName := ⟨RX4, "busiest", "()I"⟩
def dkwX4_busiest_3 : List UInt8 := [24, 6, 167, 0, 4, 40, 73, 132, 5, 1, 167, 255, 195, 132, 4, 1, 167, 255, 177, 27, 172]
abbrev dktX4_busiest_3 : List UInt8 := dkwX4_busiest_3 ++ []
def dkwX4_busiest_2 : List UInt8 := [151, 158, 0, 14, 16, 10, 21, 4, 104, 21, 5, 96, 167, 0, 4, 27, 60, 24, 6, 40, 151, 158, 0, 8]
abbrev dktX4_busiest_2 : List UInt8 := dkwX4_busiest_2 ++ dktX4_busiest_3
def dkwX4_busiest_1 : List UInt8 := [180, 0, 7, 162, 0, 58, 42, 180, 0, 23, 16, 6, 21, 4, 104, 21, 5, 96, 49, 57, 6, 24, 6, 40]
abbrev dktX4_busiest_1 : List UInt8 := dkwX4_busiest_1 ++ dktX4_busiest_2
def dkwX4_busiest_0 : List UInt8 := [2, 60, 14, 73, 3, 54, 4, 21, 4, 42, 180, 0, 7, 162, 0, 76, 3, 54, 5, 21, 5, 42]
abbrev dktX4_busiest_0 : List UInt8 := dkwX4_busiest_0 ++ dktX4_busiest_1
theorem dksX4_busiest_0 : cX4_busiest.data.toList.drop 0 = dktX4_busiest_0 := by decide +kernel
theorem dksX4_busiest_1 : cX4_busiest.data.toList.drop 22 = dktX4_busiest_1 := dk_seg dksX4_busiest_0 22 rfl rfl
theorem dksX4_busiest_2 : cX4_busiest.data.toList.drop 46 = dktX4_busiest_2 := dk_seg dksX4_busiest_1 24 rfl rfl
theorem dksX4_busiest_3 : cX4_busiest.data.toList.drop 70 = dktX4_busiest_3 := dk_seg dksX4_busiest_2 24 rfl rfl
theorem dX4_busiest_0 : decode cX4_busiest 0 = .ok (.iconst (-1), 1) := dk_2 (dk_at dksX4_busiest_0 0 rfl rfl)
theorem dX4_busiest_1 : decode cX4_busiest 1 = .ok (.istore_n 1, 1) := dk_60 (dk_at dksX4_busiest_0 1 rfl rfl)
theorem dX4_busiest_2 : decode cX4_busiest 2 = .ok (.dconst 0, 1) := dk_14 (dk_at dksX4_busiest_0 2 rfl rfl)
theorem dX4_busiest_3 : decode cX4_busiest 3 = .ok (.dstore_n 2, 1) := dk_73 (dk_at dksX4_busiest_0 3 rfl rfl)
theorem dX4_busiest_4 : decode cX4_busiest 4 = .ok (.iconst 0, 1) := dk_3 (dk_at dksX4_busiest_0 4 rfl rfl)
theorem dX4_busiest_5 : decode cX4_busiest 5 = .ok (.istore 4, 2) := dk_54 4 (dk_at dksX4_busiest_0 5 rfl rfl)
theorem dX4_busiest_7 : decode cX4_busiest 7 = .ok (.iload 4, 2) := dk_21 4 (dk_at dksX4_busiest_0 7 rfl rfl)
theorem dX4_busiest_9 : decode cX4_busiest 9 = .ok (.aload_n 0, 1) := dk_42 (dk_at dksX4_busiest_0 9 rfl rfl)
theorem dX4_busiest_10 : decode cX4_busiest 10 = .ok (.getfield 7, 3) := dk_180 0 7 (dk_at dksX4_busiest_0 10 rfl rfl)
theorem dX4_busiest_13 : decode cX4_busiest 13 = .ok (.if_icmp .ge 76, 3) := dk_162 0 76 (dk_at dksX4_busiest_0 13 rfl rfl)
theorem dX4_busiest_16 : decode cX4_busiest 16 = .ok (.iconst 0, 1) := dk_3 (dk_at dksX4_busiest_0 16 rfl rfl)
theorem dX4_busiest_17 : decode cX4_busiest 17 = .ok (.istore 5, 2) := dk_54 5 (dk_at dksX4_busiest_0 17 rfl rfl)
theorem dX4_busiest_19 : decode cX4_busiest 19 = .ok (.iload 5, 2) := dk_21 5 (dk_at dksX4_busiest_0 19 rfl rfl)
theorem dX4_busiest_21 : decode cX4_busiest 21 = .ok (.aload_n 0, 1) := dk_42 (dk_at dksX4_busiest_0 21 rfl rfl)
theorem dX4_busiest_22 : decode cX4_busiest 22 = .ok (.getfield 7, 3) := dk_180 0 7 (dk_at dksX4_busiest_1 0 rfl rfl)
theorem dX4_busiest_25 : decode cX4_busiest 25 = .ok (.if_icmp .ge 58, 3) := dk_162 0 58 (dk_at dksX4_busiest_1 3 rfl rfl)
theorem dX4_busiest_28 : decode cX4_busiest 28 = .ok (.aload_n 0, 1) := dk_42 (dk_at dksX4_busiest_1 6 rfl rfl)
theorem dX4_busiest_29 : decode cX4_busiest 29 = .ok (.getfield 23, 3) := dk_180 0 23 (dk_at dksX4_busiest_1 7 rfl rfl)
theorem dX4_busiest_32 : decode cX4_busiest 32 = .ok (.bipush 6, 2) := dk_16 6 (dk_at dksX4_busiest_1 10 rfl rfl)
theorem dX4_busiest_34 : decode cX4_busiest 34 = .ok (.iload 4, 2) := dk_21 4 (dk_at dksX4_busiest_1 12 rfl rfl)
theorem dX4_busiest_36 : decode cX4_busiest 36 = .ok (.imul, 1) := dk_104 (dk_at dksX4_busiest_1 14 rfl rfl)
theorem dX4_busiest_37 : decode cX4_busiest 37 = .ok (.iload 5, 2) := dk_21 5 (dk_at dksX4_busiest_1 15 rfl rfl)
theorem dX4_busiest_39 : decode cX4_busiest 39 = .ok (.iadd, 1) := dk_96 (dk_at dksX4_busiest_1 17 rfl rfl)
theorem dX4_busiest_40 : decode cX4_busiest 40 = .ok (.daload, 1) := dk_49 (dk_at dksX4_busiest_1 18 rfl rfl)
theorem dX4_busiest_41 : decode cX4_busiest 41 = .ok (.dstore 6, 2) := dk_57 6 (dk_at dksX4_busiest_1 19 rfl rfl)
theorem dX4_busiest_43 : decode cX4_busiest 43 = .ok (.dload 6, 2) := dk_24 6 (dk_at dksX4_busiest_1 21 rfl rfl)
theorem dX4_busiest_45 : decode cX4_busiest 45 = .ok (.dload_n 2, 1) := dk_40 (dk_at dksX4_busiest_1 23 rfl rfl)
theorem dX4_busiest_46 : decode cX4_busiest 46 = .ok (.dcmp .l, 1) := dk_151 (dk_at dksX4_busiest_2 0 rfl rfl)
theorem dX4_busiest_47 : decode cX4_busiest 47 = .ok (.ifCond .le 14, 3) := dk_158 0 14 (dk_at dksX4_busiest_2 1 rfl rfl)
theorem dX4_busiest_50 : decode cX4_busiest 50 = .ok (.bipush 10, 2) := dk_16 10 (dk_at dksX4_busiest_2 4 rfl rfl)
theorem dX4_busiest_52 : decode cX4_busiest 52 = .ok (.iload 4, 2) := dk_21 4 (dk_at dksX4_busiest_2 6 rfl rfl)
theorem dX4_busiest_54 : decode cX4_busiest 54 = .ok (.imul, 1) := dk_104 (dk_at dksX4_busiest_2 8 rfl rfl)
theorem dX4_busiest_55 : decode cX4_busiest 55 = .ok (.iload 5, 2) := dk_21 5 (dk_at dksX4_busiest_2 9 rfl rfl)
theorem dX4_busiest_57 : decode cX4_busiest 57 = .ok (.iadd, 1) := dk_96 (dk_at dksX4_busiest_2 11 rfl rfl)
theorem dX4_busiest_58 : decode cX4_busiest 58 = .ok (.goto 4, 3) := dk_167 0 4 (dk_at dksX4_busiest_2 12 rfl rfl)
theorem dX4_busiest_61 : decode cX4_busiest 61 = .ok (.iload_n 1, 1) := dk_27 (dk_at dksX4_busiest_2 15 rfl rfl)
theorem dX4_busiest_62 : decode cX4_busiest 62 = .ok (.istore_n 1, 1) := dk_60 (dk_at dksX4_busiest_2 16 rfl rfl)
theorem dX4_busiest_63 : decode cX4_busiest 63 = .ok (.dload 6, 2) := dk_24 6 (dk_at dksX4_busiest_2 17 rfl rfl)
theorem dX4_busiest_65 : decode cX4_busiest 65 = .ok (.dload_n 2, 1) := dk_40 (dk_at dksX4_busiest_2 19 rfl rfl)
theorem dX4_busiest_66 : decode cX4_busiest 66 = .ok (.dcmp .l, 1) := dk_151 (dk_at dksX4_busiest_2 20 rfl rfl)
theorem dX4_busiest_67 : decode cX4_busiest 67 = .ok (.ifCond .le 8, 3) := dk_158 0 8 (dk_at dksX4_busiest_2 21 rfl rfl)
theorem dX4_busiest_70 : decode cX4_busiest 70 = .ok (.dload 6, 2) := dk_24 6 (dk_at dksX4_busiest_3 0 rfl rfl)
theorem dX4_busiest_72 : decode cX4_busiest 72 = .ok (.goto 4, 3) := dk_167 0 4 (dk_at dksX4_busiest_3 2 rfl rfl)
theorem dX4_busiest_75 : decode cX4_busiest 75 = .ok (.dload_n 2, 1) := dk_40 (dk_at dksX4_busiest_3 5 rfl rfl)
theorem dX4_busiest_76 : decode cX4_busiest 76 = .ok (.dstore_n 2, 1) := dk_73 (dk_at dksX4_busiest_3 6 rfl rfl)
theorem dX4_busiest_77 : decode cX4_busiest 77 = .ok (.iinc 5 1, 3) := dk_132 5 1 (dk_at dksX4_busiest_3 7 rfl rfl)
theorem dX4_busiest_80 : decode cX4_busiest 80 = .ok (.goto (-61), 3) := dk_167 255 195 (dk_at dksX4_busiest_3 10 rfl rfl)
theorem dX4_busiest_83 : decode cX4_busiest 83 = .ok (.iinc 4 1, 3) := dk_132 4 1 (dk_at dksX4_busiest_3 13 rfl rfl)
theorem dX4_busiest_86 : decode cX4_busiest 86 = .ok (.goto (-79), 3) := dk_167 255 177 (dk_at dksX4_busiest_3 16 rfl rfl)
theorem dX4_busiest_89 : decode cX4_busiest 89 = .ok (.iload_n 1, 1) := dk_27 (dk_at dksX4_busiest_3 19 rfl rfl)
theorem dX4_busiest_90 : decode cX4_busiest 90 = .ok (.ireturn, 1) := dk_172 (dk_at dksX4_busiest_3 20 rfl rfl)
abbrev cX4_rounded : ByteArray := prog_11_method_45_code
def yX4_rounded : MethodName := ⟨RX4, "rounded", "(II)I"⟩
def dkwX4_rounded_1 : List UInt8 := [158, 0, 5, 3, 172, 42, 27, 182, 0, 124, 42, 180, 0, 27, 16, 6, 27, 104, 28, 96, 46, 172]
abbrev dktX4_rounded_1 : List UInt8 := dkwX4_rounded_1 ++ []
def dkwX4_rounded_0 : List UInt8 := [42, 42, 27, 28, 182, 0, 112, 153, 0, 7, 3, 167, 0, 4, 4, 181, 0, 45, 42, 180, 0, 45]
abbrev dktX4_rounded_0 : List UInt8 := dkwX4_rounded_0 ++ dktX4_rounded_1
theorem dksX4_rounded_0 : cX4_rounded.data.toList.drop 0 = dktX4_rounded_0 := by decide +kernel
theorem dksX4_rounded_1 : cX4_rounded.data.toList.drop 22 = dktX4_rounded_1 := dk_seg dksX4_rounded_0 22 rfl rfl
theorem dX4_rounded_0 : decode cX4_rounded 0 = .ok (.aload_n 0, 1) := dk_42 (dk_at dksX4_rounded_0 0 rfl rfl)
theorem dX4_rounded_1 : decode cX4_rounded 1 = .ok (.aload_n 0, 1) := dk_42 (dk_at dksX4_rounded_0 1 rfl rfl)
theorem dX4_rounded_2 : decode cX4_rounded 2 = .ok (.iload_n 1, 1) := dk_27 (dk_at dksX4_rounded_0 2 rfl rfl)
theorem dX4_rounded_3 : decode cX4_rounded 3 = .ok (.iload_n 2, 1) := dk_28 (dk_at dksX4_rounded_0 3 rfl rfl)
theorem dX4_rounded_4 : decode cX4_rounded 4 = .ok (.invokevirtual 112, 3) := dk_182 0 112 (dk_at dksX4_rounded_0 4 rfl rfl)
theorem dX4_rounded_7 : decode cX4_rounded 7 = .ok (.ifCond .eq 7, 3) := dk_153 0 7 (dk_at dksX4_rounded_0 7 rfl rfl)
theorem dX4_rounded_10 : decode cX4_rounded 10 = .ok (.iconst 0, 1) := dk_3 (dk_at dksX4_rounded_0 10 rfl rfl)
theorem dX4_rounded_11 : decode cX4_rounded 11 = .ok (.goto 4, 3) := dk_167 0 4 (dk_at dksX4_rounded_0 11 rfl rfl)
theorem dX4_rounded_14 : decode cX4_rounded 14 = .ok (.iconst 1, 1) := dk_4 (dk_at dksX4_rounded_0 14 rfl rfl)
theorem dX4_rounded_15 : decode cX4_rounded 15 = .ok (.putfield 45, 3) := dk_181 0 45 (dk_at dksX4_rounded_0 15 rfl rfl)
theorem dX4_rounded_18 : decode cX4_rounded 18 = .ok (.aload_n 0, 1) := dk_42 (dk_at dksX4_rounded_0 18 rfl rfl)
theorem dX4_rounded_19 : decode cX4_rounded 19 = .ok (.getfield 45, 3) := dk_180 0 45 (dk_at dksX4_rounded_0 19 rfl rfl)
theorem dX4_rounded_22 : decode cX4_rounded 22 = .ok (.ifCond .le 5, 3) := dk_158 0 5 (dk_at dksX4_rounded_1 0 rfl rfl)
theorem dX4_rounded_25 : decode cX4_rounded 25 = .ok (.iconst 0, 1) := dk_3 (dk_at dksX4_rounded_1 3 rfl rfl)
theorem dX4_rounded_26 : decode cX4_rounded 26 = .ok (.ireturn, 1) := dk_172 (dk_at dksX4_rounded_1 4 rfl rfl)
theorem dX4_rounded_27 : decode cX4_rounded 27 = .ok (.aload_n 0, 1) := dk_42 (dk_at dksX4_rounded_1 5 rfl rfl)
theorem dX4_rounded_28 : decode cX4_rounded 28 = .ok (.iload_n 1, 1) := dk_27 (dk_at dksX4_rounded_1 6 rfl rfl)
theorem dX4_rounded_29 : decode cX4_rounded 29 = .ok (.invokevirtual 124, 3) := dk_182 0 124 (dk_at dksX4_rounded_1 7 rfl rfl)
theorem dX4_rounded_32 : decode cX4_rounded 32 = .ok (.aload_n 0, 1) := dk_42 (dk_at dksX4_rounded_1 10 rfl rfl)
theorem dX4_rounded_33 : decode cX4_rounded 33 = .ok (.getfield 27, 3) := dk_180 0 27 (dk_at dksX4_rounded_1 11 rfl rfl)
theorem dX4_rounded_36 : decode cX4_rounded 36 = .ok (.bipush 6, 2) := dk_16 6 (dk_at dksX4_rounded_1 14 rfl rfl)
theorem dX4_rounded_38 : decode cX4_rounded 38 = .ok (.iload_n 1, 1) := dk_27 (dk_at dksX4_rounded_1 16 rfl rfl)
theorem dX4_rounded_39 : decode cX4_rounded 39 = .ok (.imul, 1) := dk_104 (dk_at dksX4_rounded_1 17 rfl rfl)
theorem dX4_rounded_40 : decode cX4_rounded 40 = .ok (.iload_n 2, 1) := dk_28 (dk_at dksX4_rounded_1 18 rfl rfl)
theorem dX4_rounded_41 : decode cX4_rounded 41 = .ok (.iadd, 1) := dk_96 (dk_at dksX4_rounded_1 19 rfl rfl)
theorem dX4_rounded_42 : decode cX4_rounded 42 = .ok (.iaload, 1) := dk_46 (dk_at dksX4_rounded_1 20 rfl rfl)
theorem dX4_rounded_43 : decode cX4_rounded 43 = .ok (.ireturn, 1) := dk_172 (dk_at dksX4_rounded_1 21 rfl rfl)
abbrev cX4_roundRow : ByteArray := prog_11_method_43_code
def yX4_roundRow : MethodName := ⟨RX4, "roundRow", "(I)V"⟩
def dkwX4_roundRow_7 : List UInt8 := [180, 0, 30, 21, 5, 20, 0, 122, 82, 42, 27, 182, 0, 119, 54, 5, 167, 255, 197, 177]
abbrev dktX4_roundRow_7 : List UInt8 := dkwX4_roundRow_7 ++ []
def dkwX4_roundRow_6 : List UInt8 := [2, 159, 0, 42, 42, 180, 0, 27, 16, 6, 27, 104, 21, 5, 96, 92, 46, 4, 96, 79, 132, 4, 1, 42]
abbrev dktX4_roundRow_6 : List UInt8 := dkwX4_roundRow_6 ++ dktX4_roundRow_7
def dkwX4_roundRow_5 : List UInt8 := [182, 0, 119, 54, 5, 40, 14, 151, 158, 0, 59, 21, 4, 42, 180, 0, 13, 27, 46, 162, 0, 48, 21, 5]
abbrev dktX4_roundRow_5 : List UInt8 := dkwX4_roundRow_5 ++ dktX4_roundRow_6
def dkwX4_roundRow_4 : List UInt8 := [42, 180, 0, 27, 16, 6, 27, 104, 21, 5, 96, 46, 96, 54, 4, 132, 5, 1, 167, 255, 155, 42, 27]
abbrev dktX4_roundRow_4 : List UInt8 := dkwX4_roundRow_4 ++ dktX4_roundRow_5
def dkwX4_roundRow_3 : List UInt8 := [180, 0, 30, 21, 5, 24, 6, 42, 180, 0, 27, 16, 6, 27, 104, 21, 5, 96, 46, 135, 103, 82, 21, 4]
abbrev dktX4_roundRow_3 : List UInt8 := dkwX4_roundRow_3 ++ dktX4_roundRow_4
def dkwX4_roundRow_2 : List UInt8 := [111, 167, 0, 4, 14, 57, 6, 42, 180, 0, 27, 16, 6, 27, 104, 21, 5, 96, 24, 6, 142, 79, 42]
abbrev dktX4_roundRow_2 : List UInt8 := dkwX4_roundRow_2 ++ dktX4_roundRow_3
def dkwX4_roundRow_1 : List UInt8 := [158, 0, 28, 42, 180, 0, 23, 16, 6, 27, 104, 21, 5, 96, 49, 42, 180, 0, 13, 27, 46, 135, 107, 40]
abbrev dktX4_roundRow_1 : List UInt8 := dkwX4_roundRow_1 ++ dktX4_roundRow_2
def dkwX4_roundRow_0 : List UInt8 := [42, 27, 182, 0, 84, 73, 3, 54, 4, 3, 54, 5, 21, 5, 42, 180, 0, 7, 162, 0, 98, 40, 14, 151]
abbrev dktX4_roundRow_0 : List UInt8 := dkwX4_roundRow_0 ++ dktX4_roundRow_1
theorem dksX4_roundRow_0 : cX4_roundRow.data.toList.drop 0 = dktX4_roundRow_0 := by decide +kernel
theorem dksX4_roundRow_1 : cX4_roundRow.data.toList.drop 24 = dktX4_roundRow_1 := dk_seg dksX4_roundRow_0 24 rfl rfl
theorem dksX4_roundRow_2 : cX4_roundRow.data.toList.drop 48 = dktX4_roundRow_2 := dk_seg dksX4_roundRow_1 24 rfl rfl
theorem dksX4_roundRow_3 : cX4_roundRow.data.toList.drop 71 = dktX4_roundRow_3 := dk_seg dksX4_roundRow_2 23 rfl rfl
theorem dksX4_roundRow_4 : cX4_roundRow.data.toList.drop 95 = dktX4_roundRow_4 := dk_seg dksX4_roundRow_3 24 rfl rfl
theorem dksX4_roundRow_5 : cX4_roundRow.data.toList.drop 118 = dktX4_roundRow_5 := dk_seg dksX4_roundRow_4 23 rfl rfl
theorem dksX4_roundRow_6 : cX4_roundRow.data.toList.drop 142 = dktX4_roundRow_6 := dk_seg dksX4_roundRow_5 24 rfl rfl
theorem dksX4_roundRow_7 : cX4_roundRow.data.toList.drop 166 = dktX4_roundRow_7 := dk_seg dksX4_roundRow_6 24 rfl rfl
theorem dX4_roundRow_0 : decode cX4_roundRow 0 = .ok (.aload_n 0, 1) := dk_42 (dk_at dksX4_roundRow_0 0 rfl rfl)
theorem dX4_roundRow_1 : decode cX4_roundRow 1 = .ok (.iload_n 1, 1) := dk_27 (dk_at dksX4_roundRow_0 1 rfl rfl)
theorem dX4_roundRow_2 : decode cX4_roundRow 2 = .ok (.invokevirtual 84, 3) := dk_182 0 84 (dk_at dksX4_roundRow_0 2 rfl rfl)
theorem dX4_roundRow_5 : decode cX4_roundRow 5 = .ok (.dstore_n 2, 1) := dk_73 (dk_at dksX4_roundRow_0 5 rfl rfl)
theorem dX4_roundRow_6 : decode cX4_roundRow 6 = .ok (.iconst 0, 1) := dk_3 (dk_at dksX4_roundRow_0 6 rfl rfl)
theorem dX4_roundRow_7 : decode cX4_roundRow 7 = .ok (.istore 4, 2) := dk_54 4 (dk_at dksX4_roundRow_0 7 rfl rfl)
theorem dX4_roundRow_9 : decode cX4_roundRow 9 = .ok (.iconst 0, 1) := dk_3 (dk_at dksX4_roundRow_0 9 rfl rfl)
theorem dX4_roundRow_10 : decode cX4_roundRow 10 = .ok (.istore 5, 2) := dk_54 5 (dk_at dksX4_roundRow_0 10 rfl rfl)
theorem dX4_roundRow_12 : decode cX4_roundRow 12 = .ok (.iload 5, 2) := dk_21 5 (dk_at dksX4_roundRow_0 12 rfl rfl)
theorem dX4_roundRow_14 : decode cX4_roundRow 14 = .ok (.aload_n 0, 1) := dk_42 (dk_at dksX4_roundRow_0 14 rfl rfl)
theorem dX4_roundRow_15 : decode cX4_roundRow 15 = .ok (.getfield 7, 3) := dk_180 0 7 (dk_at dksX4_roundRow_0 15 rfl rfl)
theorem dX4_roundRow_18 : decode cX4_roundRow 18 = .ok (.if_icmp .ge 98, 3) := dk_162 0 98 (dk_at dksX4_roundRow_0 18 rfl rfl)
theorem dX4_roundRow_21 : decode cX4_roundRow 21 = .ok (.dload_n 2, 1) := dk_40 (dk_at dksX4_roundRow_0 21 rfl rfl)
theorem dX4_roundRow_22 : decode cX4_roundRow 22 = .ok (.dconst 0, 1) := dk_14 (dk_at dksX4_roundRow_0 22 rfl rfl)
theorem dX4_roundRow_23 : decode cX4_roundRow 23 = .ok (.dcmp .l, 1) := dk_151 (dk_at dksX4_roundRow_0 23 rfl rfl)
theorem dX4_roundRow_24 : decode cX4_roundRow 24 = .ok (.ifCond .le 28, 3) := dk_158 0 28 (dk_at dksX4_roundRow_1 0 rfl rfl)
theorem dX4_roundRow_27 : decode cX4_roundRow 27 = .ok (.aload_n 0, 1) := dk_42 (dk_at dksX4_roundRow_1 3 rfl rfl)
theorem dX4_roundRow_28 : decode cX4_roundRow 28 = .ok (.getfield 23, 3) := dk_180 0 23 (dk_at dksX4_roundRow_1 4 rfl rfl)
theorem dX4_roundRow_31 : decode cX4_roundRow 31 = .ok (.bipush 6, 2) := dk_16 6 (dk_at dksX4_roundRow_1 7 rfl rfl)
theorem dX4_roundRow_33 : decode cX4_roundRow 33 = .ok (.iload_n 1, 1) := dk_27 (dk_at dksX4_roundRow_1 9 rfl rfl)
theorem dX4_roundRow_34 : decode cX4_roundRow 34 = .ok (.imul, 1) := dk_104 (dk_at dksX4_roundRow_1 10 rfl rfl)
theorem dX4_roundRow_35 : decode cX4_roundRow 35 = .ok (.iload 5, 2) := dk_21 5 (dk_at dksX4_roundRow_1 11 rfl rfl)
theorem dX4_roundRow_37 : decode cX4_roundRow 37 = .ok (.iadd, 1) := dk_96 (dk_at dksX4_roundRow_1 13 rfl rfl)
theorem dX4_roundRow_38 : decode cX4_roundRow 38 = .ok (.daload, 1) := dk_49 (dk_at dksX4_roundRow_1 14 rfl rfl)
theorem dX4_roundRow_39 : decode cX4_roundRow 39 = .ok (.aload_n 0, 1) := dk_42 (dk_at dksX4_roundRow_1 15 rfl rfl)
theorem dX4_roundRow_40 : decode cX4_roundRow 40 = .ok (.getfield 13, 3) := dk_180 0 13 (dk_at dksX4_roundRow_1 16 rfl rfl)
theorem dX4_roundRow_43 : decode cX4_roundRow 43 = .ok (.iload_n 1, 1) := dk_27 (dk_at dksX4_roundRow_1 19 rfl rfl)
theorem dX4_roundRow_44 : decode cX4_roundRow 44 = .ok (.iaload, 1) := dk_46 (dk_at dksX4_roundRow_1 20 rfl rfl)
theorem dX4_roundRow_45 : decode cX4_roundRow 45 = .ok (.i2d, 1) := dk_135 (dk_at dksX4_roundRow_1 21 rfl rfl)
theorem dX4_roundRow_46 : decode cX4_roundRow 46 = .ok (.dmul, 1) := dk_107 (dk_at dksX4_roundRow_1 22 rfl rfl)
theorem dX4_roundRow_47 : decode cX4_roundRow 47 = .ok (.dload_n 2, 1) := dk_40 (dk_at dksX4_roundRow_1 23 rfl rfl)
theorem dX4_roundRow_48 : decode cX4_roundRow 48 = .ok (.ddiv, 1) := dk_111 (dk_at dksX4_roundRow_2 0 rfl rfl)
theorem dX4_roundRow_49 : decode cX4_roundRow 49 = .ok (.goto 4, 3) := dk_167 0 4 (dk_at dksX4_roundRow_2 1 rfl rfl)
theorem dX4_roundRow_52 : decode cX4_roundRow 52 = .ok (.dconst 0, 1) := dk_14 (dk_at dksX4_roundRow_2 4 rfl rfl)
theorem dX4_roundRow_53 : decode cX4_roundRow 53 = .ok (.dstore 6, 2) := dk_57 6 (dk_at dksX4_roundRow_2 5 rfl rfl)
theorem dX4_roundRow_55 : decode cX4_roundRow 55 = .ok (.aload_n 0, 1) := dk_42 (dk_at dksX4_roundRow_2 7 rfl rfl)
theorem dX4_roundRow_56 : decode cX4_roundRow 56 = .ok (.getfield 27, 3) := dk_180 0 27 (dk_at dksX4_roundRow_2 8 rfl rfl)
theorem dX4_roundRow_59 : decode cX4_roundRow 59 = .ok (.bipush 6, 2) := dk_16 6 (dk_at dksX4_roundRow_2 11 rfl rfl)
theorem dX4_roundRow_61 : decode cX4_roundRow 61 = .ok (.iload_n 1, 1) := dk_27 (dk_at dksX4_roundRow_2 13 rfl rfl)
theorem dX4_roundRow_62 : decode cX4_roundRow 62 = .ok (.imul, 1) := dk_104 (dk_at dksX4_roundRow_2 14 rfl rfl)
theorem dX4_roundRow_63 : decode cX4_roundRow 63 = .ok (.iload 5, 2) := dk_21 5 (dk_at dksX4_roundRow_2 15 rfl rfl)
theorem dX4_roundRow_65 : decode cX4_roundRow 65 = .ok (.iadd, 1) := dk_96 (dk_at dksX4_roundRow_2 17 rfl rfl)
theorem dX4_roundRow_66 : decode cX4_roundRow 66 = .ok (.dload 6, 2) := dk_24 6 (dk_at dksX4_roundRow_2 18 rfl rfl)
theorem dX4_roundRow_68 : decode cX4_roundRow 68 = .ok (.d2i, 1) := dk_142 (dk_at dksX4_roundRow_2 20 rfl rfl)
theorem dX4_roundRow_69 : decode cX4_roundRow 69 = .ok (.iastore, 1) := dk_79 (dk_at dksX4_roundRow_2 21 rfl rfl)
theorem dX4_roundRow_70 : decode cX4_roundRow 70 = .ok (.aload_n 0, 1) := dk_42 (dk_at dksX4_roundRow_2 22 rfl rfl)
theorem dX4_roundRow_71 : decode cX4_roundRow 71 = .ok (.getfield 30, 3) := dk_180 0 30 (dk_at dksX4_roundRow_3 0 rfl rfl)
theorem dX4_roundRow_74 : decode cX4_roundRow 74 = .ok (.iload 5, 2) := dk_21 5 (dk_at dksX4_roundRow_3 3 rfl rfl)
theorem dX4_roundRow_76 : decode cX4_roundRow 76 = .ok (.dload 6, 2) := dk_24 6 (dk_at dksX4_roundRow_3 5 rfl rfl)
theorem dX4_roundRow_78 : decode cX4_roundRow 78 = .ok (.aload_n 0, 1) := dk_42 (dk_at dksX4_roundRow_3 7 rfl rfl)
theorem dX4_roundRow_79 : decode cX4_roundRow 79 = .ok (.getfield 27, 3) := dk_180 0 27 (dk_at dksX4_roundRow_3 8 rfl rfl)
theorem dX4_roundRow_82 : decode cX4_roundRow 82 = .ok (.bipush 6, 2) := dk_16 6 (dk_at dksX4_roundRow_3 11 rfl rfl)
theorem dX4_roundRow_84 : decode cX4_roundRow 84 = .ok (.iload_n 1, 1) := dk_27 (dk_at dksX4_roundRow_3 13 rfl rfl)
theorem dX4_roundRow_85 : decode cX4_roundRow 85 = .ok (.imul, 1) := dk_104 (dk_at dksX4_roundRow_3 14 rfl rfl)
theorem dX4_roundRow_86 : decode cX4_roundRow 86 = .ok (.iload 5, 2) := dk_21 5 (dk_at dksX4_roundRow_3 15 rfl rfl)
theorem dX4_roundRow_88 : decode cX4_roundRow 88 = .ok (.iadd, 1) := dk_96 (dk_at dksX4_roundRow_3 17 rfl rfl)
theorem dX4_roundRow_89 : decode cX4_roundRow 89 = .ok (.iaload, 1) := dk_46 (dk_at dksX4_roundRow_3 18 rfl rfl)
theorem dX4_roundRow_90 : decode cX4_roundRow 90 = .ok (.i2d, 1) := dk_135 (dk_at dksX4_roundRow_3 19 rfl rfl)
theorem dX4_roundRow_91 : decode cX4_roundRow 91 = .ok (.dsub, 1) := dk_103 (dk_at dksX4_roundRow_3 20 rfl rfl)
theorem dX4_roundRow_92 : decode cX4_roundRow 92 = .ok (.dastore, 1) := dk_82 (dk_at dksX4_roundRow_3 21 rfl rfl)
theorem dX4_roundRow_93 : decode cX4_roundRow 93 = .ok (.iload 4, 2) := dk_21 4 (dk_at dksX4_roundRow_3 22 rfl rfl)
theorem dX4_roundRow_95 : decode cX4_roundRow 95 = .ok (.aload_n 0, 1) := dk_42 (dk_at dksX4_roundRow_4 0 rfl rfl)
theorem dX4_roundRow_96 : decode cX4_roundRow 96 = .ok (.getfield 27, 3) := dk_180 0 27 (dk_at dksX4_roundRow_4 1 rfl rfl)
theorem dX4_roundRow_99 : decode cX4_roundRow 99 = .ok (.bipush 6, 2) := dk_16 6 (dk_at dksX4_roundRow_4 4 rfl rfl)
theorem dX4_roundRow_101 : decode cX4_roundRow 101 = .ok (.iload_n 1, 1) := dk_27 (dk_at dksX4_roundRow_4 6 rfl rfl)
theorem dX4_roundRow_102 : decode cX4_roundRow 102 = .ok (.imul, 1) := dk_104 (dk_at dksX4_roundRow_4 7 rfl rfl)
theorem dX4_roundRow_103 : decode cX4_roundRow 103 = .ok (.iload 5, 2) := dk_21 5 (dk_at dksX4_roundRow_4 8 rfl rfl)
theorem dX4_roundRow_105 : decode cX4_roundRow 105 = .ok (.iadd, 1) := dk_96 (dk_at dksX4_roundRow_4 10 rfl rfl)
theorem dX4_roundRow_106 : decode cX4_roundRow 106 = .ok (.iaload, 1) := dk_46 (dk_at dksX4_roundRow_4 11 rfl rfl)
theorem dX4_roundRow_107 : decode cX4_roundRow 107 = .ok (.iadd, 1) := dk_96 (dk_at dksX4_roundRow_4 12 rfl rfl)
theorem dX4_roundRow_108 : decode cX4_roundRow 108 = .ok (.istore 4, 2) := dk_54 4 (dk_at dksX4_roundRow_4 13 rfl rfl)
theorem dX4_roundRow_110 : decode cX4_roundRow 110 = .ok (.iinc 5 1, 3) := dk_132 5 1 (dk_at dksX4_roundRow_4 15 rfl rfl)
theorem dX4_roundRow_113 : decode cX4_roundRow 113 = .ok (.goto (-101), 3) := dk_167 255 155 (dk_at dksX4_roundRow_4 18 rfl rfl)
theorem dX4_roundRow_116 : decode cX4_roundRow 116 = .ok (.aload_n 0, 1) := dk_42 (dk_at dksX4_roundRow_4 21 rfl rfl)
theorem dX4_roundRow_117 : decode cX4_roundRow 117 = .ok (.iload_n 1, 1) := dk_27 (dk_at dksX4_roundRow_4 22 rfl rfl)
theorem dX4_roundRow_118 : decode cX4_roundRow 118 = .ok (.invokevirtual 119, 3) := dk_182 0 119 (dk_at dksX4_roundRow_5 0 rfl rfl)
theorem dX4_roundRow_121 : decode cX4_roundRow 121 = .ok (.istore 5, 2) := dk_54 5 (dk_at dksX4_roundRow_5 3 rfl rfl)
theorem dX4_roundRow_123 : decode cX4_roundRow 123 = .ok (.dload_n 2, 1) := dk_40 (dk_at dksX4_roundRow_5 5 rfl rfl)
theorem dX4_roundRow_124 : decode cX4_roundRow 124 = .ok (.dconst 0, 1) := dk_14 (dk_at dksX4_roundRow_5 6 rfl rfl)
theorem dX4_roundRow_125 : decode cX4_roundRow 125 = .ok (.dcmp .l, 1) := dk_151 (dk_at dksX4_roundRow_5 7 rfl rfl)
theorem dX4_roundRow_126 : decode cX4_roundRow 126 = .ok (.ifCond .le 59, 3) := dk_158 0 59 (dk_at dksX4_roundRow_5 8 rfl rfl)
theorem dX4_roundRow_129 : decode cX4_roundRow 129 = .ok (.iload 4, 2) := dk_21 4 (dk_at dksX4_roundRow_5 11 rfl rfl)
theorem dX4_roundRow_131 : decode cX4_roundRow 131 = .ok (.aload_n 0, 1) := dk_42 (dk_at dksX4_roundRow_5 13 rfl rfl)
theorem dX4_roundRow_132 : decode cX4_roundRow 132 = .ok (.getfield 13, 3) := dk_180 0 13 (dk_at dksX4_roundRow_5 14 rfl rfl)
theorem dX4_roundRow_135 : decode cX4_roundRow 135 = .ok (.iload_n 1, 1) := dk_27 (dk_at dksX4_roundRow_5 17 rfl rfl)
theorem dX4_roundRow_136 : decode cX4_roundRow 136 = .ok (.iaload, 1) := dk_46 (dk_at dksX4_roundRow_5 18 rfl rfl)
theorem dX4_roundRow_137 : decode cX4_roundRow 137 = .ok (.if_icmp .ge 48, 3) := dk_162 0 48 (dk_at dksX4_roundRow_5 19 rfl rfl)
theorem dX4_roundRow_140 : decode cX4_roundRow 140 = .ok (.iload 5, 2) := dk_21 5 (dk_at dksX4_roundRow_5 22 rfl rfl)
theorem dX4_roundRow_142 : decode cX4_roundRow 142 = .ok (.iconst (-1), 1) := dk_2 (dk_at dksX4_roundRow_6 0 rfl rfl)
theorem dX4_roundRow_143 : decode cX4_roundRow 143 = .ok (.if_icmp .eq 42, 3) := dk_159 0 42 (dk_at dksX4_roundRow_6 1 rfl rfl)
theorem dX4_roundRow_146 : decode cX4_roundRow 146 = .ok (.aload_n 0, 1) := dk_42 (dk_at dksX4_roundRow_6 4 rfl rfl)
theorem dX4_roundRow_147 : decode cX4_roundRow 147 = .ok (.getfield 27, 3) := dk_180 0 27 (dk_at dksX4_roundRow_6 5 rfl rfl)
theorem dX4_roundRow_150 : decode cX4_roundRow 150 = .ok (.bipush 6, 2) := dk_16 6 (dk_at dksX4_roundRow_6 8 rfl rfl)
theorem dX4_roundRow_152 : decode cX4_roundRow 152 = .ok (.iload_n 1, 1) := dk_27 (dk_at dksX4_roundRow_6 10 rfl rfl)
theorem dX4_roundRow_153 : decode cX4_roundRow 153 = .ok (.imul, 1) := dk_104 (dk_at dksX4_roundRow_6 11 rfl rfl)
theorem dX4_roundRow_154 : decode cX4_roundRow 154 = .ok (.iload 5, 2) := dk_21 5 (dk_at dksX4_roundRow_6 12 rfl rfl)
theorem dX4_roundRow_156 : decode cX4_roundRow 156 = .ok (.iadd, 1) := dk_96 (dk_at dksX4_roundRow_6 14 rfl rfl)
theorem dX4_roundRow_157 : decode cX4_roundRow 157 = .ok (.dup2, 1) := dk_92 (dk_at dksX4_roundRow_6 15 rfl rfl)
theorem dX4_roundRow_158 : decode cX4_roundRow 158 = .ok (.iaload, 1) := dk_46 (dk_at dksX4_roundRow_6 16 rfl rfl)
theorem dX4_roundRow_159 : decode cX4_roundRow 159 = .ok (.iconst 1, 1) := dk_4 (dk_at dksX4_roundRow_6 17 rfl rfl)
theorem dX4_roundRow_160 : decode cX4_roundRow 160 = .ok (.iadd, 1) := dk_96 (dk_at dksX4_roundRow_6 18 rfl rfl)
theorem dX4_roundRow_161 : decode cX4_roundRow 161 = .ok (.iastore, 1) := dk_79 (dk_at dksX4_roundRow_6 19 rfl rfl)
theorem dX4_roundRow_162 : decode cX4_roundRow 162 = .ok (.iinc 4 1, 3) := dk_132 4 1 (dk_at dksX4_roundRow_6 20 rfl rfl)
theorem dX4_roundRow_165 : decode cX4_roundRow 165 = .ok (.aload_n 0, 1) := dk_42 (dk_at dksX4_roundRow_6 23 rfl rfl)
theorem dX4_roundRow_166 : decode cX4_roundRow 166 = .ok (.getfield 30, 3) := dk_180 0 30 (dk_at dksX4_roundRow_7 0 rfl rfl)
theorem dX4_roundRow_169 : decode cX4_roundRow 169 = .ok (.iload 5, 2) := dk_21 5 (dk_at dksX4_roundRow_7 3 rfl rfl)
theorem dX4_roundRow_171 : decode cX4_roundRow 171 = .ok (.ldc2_w 122, 3) := dk_20 0 122 (dk_at dksX4_roundRow_7 5 rfl rfl)
theorem dX4_roundRow_174 : decode cX4_roundRow 174 = .ok (.dastore, 1) := dk_82 (dk_at dksX4_roundRow_7 8 rfl rfl)
theorem dX4_roundRow_175 : decode cX4_roundRow 175 = .ok (.aload_n 0, 1) := dk_42 (dk_at dksX4_roundRow_7 9 rfl rfl)
theorem dX4_roundRow_176 : decode cX4_roundRow 176 = .ok (.iload_n 1, 1) := dk_27 (dk_at dksX4_roundRow_7 10 rfl rfl)
theorem dX4_roundRow_177 : decode cX4_roundRow 177 = .ok (.invokevirtual 119, 3) := dk_182 0 119 (dk_at dksX4_roundRow_7 11 rfl rfl)
theorem dX4_roundRow_180 : decode cX4_roundRow 180 = .ok (.istore 5, 2) := dk_54 5 (dk_at dksX4_roundRow_7 14 rfl rfl)
theorem dX4_roundRow_182 : decode cX4_roundRow 182 = .ok (.goto (-59), 3) := dk_167 255 197 (dk_at dksX4_roundRow_7 16 rfl rfl)
theorem dX4_roundRow_185 : decode cX4_roundRow 185 = .ok (.return_, 1) := dk_177 (dk_at dksX4_roundRow_7 19 rfl rfl)
abbrev cX4_nextOf : ByteArray := prog_11_method_42_code
def yX4_nextOf : MethodName := ⟨RX4, "nextOf", "(I)I"⟩
def dkwX4_nextOf_3 : List UInt8 := [29, 167, 0, 4, 28, 61, 132, 3, 1, 167, 255, 181, 28, 172]
abbrev dktX4_nextOf_3 : List UInt8 := dkwX4_nextOf_3 ++ []
def dkwX4_nextOf_2 : List UInt8 := [153, 0, 28, 28, 2, 159, 0, 19, 42, 180, 0, 30, 29, 49, 42, 180, 0, 30, 28, 49, 151, 158, 0, 7]
abbrev dktX4_nextOf_2 : List UInt8 := dkwX4_nextOf_2 ++ dktX4_nextOf_3
def dkwX4_nextOf_1 : List UInt8 := [158, 0, 18, 42, 180, 0, 30, 29, 49, 14, 151, 155, 0, 7, 4, 167, 0, 4, 3, 54, 4, 21, 4]
abbrev dktX4_nextOf_1 : List UInt8 := dkwX4_nextOf_1 ++ dktX4_nextOf_2
def dkwX4_nextOf_0 : List UInt8 := [2, 61, 3, 62, 29, 42, 180, 0, 7, 162, 0, 73, 42, 180, 0, 20, 16, 6, 27, 104, 29, 96, 46]
abbrev dktX4_nextOf_0 : List UInt8 := dkwX4_nextOf_0 ++ dktX4_nextOf_1
theorem dksX4_nextOf_0 : cX4_nextOf.data.toList.drop 0 = dktX4_nextOf_0 := by decide +kernel
theorem dksX4_nextOf_1 : cX4_nextOf.data.toList.drop 23 = dktX4_nextOf_1 := dk_seg dksX4_nextOf_0 23 rfl rfl
theorem dksX4_nextOf_2 : cX4_nextOf.data.toList.drop 46 = dktX4_nextOf_2 := dk_seg dksX4_nextOf_1 23 rfl rfl
theorem dksX4_nextOf_3 : cX4_nextOf.data.toList.drop 70 = dktX4_nextOf_3 := dk_seg dksX4_nextOf_2 24 rfl rfl
theorem dX4_nextOf_0 : decode cX4_nextOf 0 = .ok (.iconst (-1), 1) := dk_2 (dk_at dksX4_nextOf_0 0 rfl rfl)
theorem dX4_nextOf_1 : decode cX4_nextOf 1 = .ok (.istore_n 2, 1) := dk_61 (dk_at dksX4_nextOf_0 1 rfl rfl)
theorem dX4_nextOf_2 : decode cX4_nextOf 2 = .ok (.iconst 0, 1) := dk_3 (dk_at dksX4_nextOf_0 2 rfl rfl)
theorem dX4_nextOf_3 : decode cX4_nextOf 3 = .ok (.istore_n 3, 1) := dk_62 (dk_at dksX4_nextOf_0 3 rfl rfl)
theorem dX4_nextOf_4 : decode cX4_nextOf 4 = .ok (.iload_n 3, 1) := dk_29 (dk_at dksX4_nextOf_0 4 rfl rfl)
theorem dX4_nextOf_5 : decode cX4_nextOf 5 = .ok (.aload_n 0, 1) := dk_42 (dk_at dksX4_nextOf_0 5 rfl rfl)
theorem dX4_nextOf_6 : decode cX4_nextOf 6 = .ok (.getfield 7, 3) := dk_180 0 7 (dk_at dksX4_nextOf_0 6 rfl rfl)
theorem dX4_nextOf_9 : decode cX4_nextOf 9 = .ok (.if_icmp .ge 73, 3) := dk_162 0 73 (dk_at dksX4_nextOf_0 9 rfl rfl)
theorem dX4_nextOf_12 : decode cX4_nextOf 12 = .ok (.aload_n 0, 1) := dk_42 (dk_at dksX4_nextOf_0 12 rfl rfl)
theorem dX4_nextOf_13 : decode cX4_nextOf 13 = .ok (.getfield 20, 3) := dk_180 0 20 (dk_at dksX4_nextOf_0 13 rfl rfl)
theorem dX4_nextOf_16 : decode cX4_nextOf 16 = .ok (.bipush 6, 2) := dk_16 6 (dk_at dksX4_nextOf_0 16 rfl rfl)
theorem dX4_nextOf_18 : decode cX4_nextOf 18 = .ok (.iload_n 1, 1) := dk_27 (dk_at dksX4_nextOf_0 18 rfl rfl)
theorem dX4_nextOf_19 : decode cX4_nextOf 19 = .ok (.imul, 1) := dk_104 (dk_at dksX4_nextOf_0 19 rfl rfl)
theorem dX4_nextOf_20 : decode cX4_nextOf 20 = .ok (.iload_n 3, 1) := dk_29 (dk_at dksX4_nextOf_0 20 rfl rfl)
theorem dX4_nextOf_21 : decode cX4_nextOf 21 = .ok (.iadd, 1) := dk_96 (dk_at dksX4_nextOf_0 21 rfl rfl)
theorem dX4_nextOf_22 : decode cX4_nextOf 22 = .ok (.iaload, 1) := dk_46 (dk_at dksX4_nextOf_0 22 rfl rfl)
theorem dX4_nextOf_23 : decode cX4_nextOf 23 = .ok (.ifCond .le 18, 3) := dk_158 0 18 (dk_at dksX4_nextOf_1 0 rfl rfl)
theorem dX4_nextOf_26 : decode cX4_nextOf 26 = .ok (.aload_n 0, 1) := dk_42 (dk_at dksX4_nextOf_1 3 rfl rfl)
theorem dX4_nextOf_27 : decode cX4_nextOf 27 = .ok (.getfield 30, 3) := dk_180 0 30 (dk_at dksX4_nextOf_1 4 rfl rfl)
theorem dX4_nextOf_30 : decode cX4_nextOf 30 = .ok (.iload_n 3, 1) := dk_29 (dk_at dksX4_nextOf_1 7 rfl rfl)
theorem dX4_nextOf_31 : decode cX4_nextOf 31 = .ok (.daload, 1) := dk_49 (dk_at dksX4_nextOf_1 8 rfl rfl)
theorem dX4_nextOf_32 : decode cX4_nextOf 32 = .ok (.dconst 0, 1) := dk_14 (dk_at dksX4_nextOf_1 9 rfl rfl)
theorem dX4_nextOf_33 : decode cX4_nextOf 33 = .ok (.dcmp .l, 1) := dk_151 (dk_at dksX4_nextOf_1 10 rfl rfl)
theorem dX4_nextOf_34 : decode cX4_nextOf 34 = .ok (.ifCond .lt 7, 3) := dk_155 0 7 (dk_at dksX4_nextOf_1 11 rfl rfl)
theorem dX4_nextOf_37 : decode cX4_nextOf 37 = .ok (.iconst 1, 1) := dk_4 (dk_at dksX4_nextOf_1 14 rfl rfl)
theorem dX4_nextOf_38 : decode cX4_nextOf 38 = .ok (.goto 4, 3) := dk_167 0 4 (dk_at dksX4_nextOf_1 15 rfl rfl)
theorem dX4_nextOf_41 : decode cX4_nextOf 41 = .ok (.iconst 0, 1) := dk_3 (dk_at dksX4_nextOf_1 18 rfl rfl)
theorem dX4_nextOf_42 : decode cX4_nextOf 42 = .ok (.istore 4, 2) := dk_54 4 (dk_at dksX4_nextOf_1 19 rfl rfl)
theorem dX4_nextOf_44 : decode cX4_nextOf 44 = .ok (.iload 4, 2) := dk_21 4 (dk_at dksX4_nextOf_1 21 rfl rfl)
theorem dX4_nextOf_46 : decode cX4_nextOf 46 = .ok (.ifCond .eq 28, 3) := dk_153 0 28 (dk_at dksX4_nextOf_2 0 rfl rfl)
theorem dX4_nextOf_49 : decode cX4_nextOf 49 = .ok (.iload_n 2, 1) := dk_28 (dk_at dksX4_nextOf_2 3 rfl rfl)
theorem dX4_nextOf_50 : decode cX4_nextOf 50 = .ok (.iconst (-1), 1) := dk_2 (dk_at dksX4_nextOf_2 4 rfl rfl)
theorem dX4_nextOf_51 : decode cX4_nextOf 51 = .ok (.if_icmp .eq 19, 3) := dk_159 0 19 (dk_at dksX4_nextOf_2 5 rfl rfl)
theorem dX4_nextOf_54 : decode cX4_nextOf 54 = .ok (.aload_n 0, 1) := dk_42 (dk_at dksX4_nextOf_2 8 rfl rfl)
theorem dX4_nextOf_55 : decode cX4_nextOf 55 = .ok (.getfield 30, 3) := dk_180 0 30 (dk_at dksX4_nextOf_2 9 rfl rfl)
theorem dX4_nextOf_58 : decode cX4_nextOf 58 = .ok (.iload_n 3, 1) := dk_29 (dk_at dksX4_nextOf_2 12 rfl rfl)
theorem dX4_nextOf_59 : decode cX4_nextOf 59 = .ok (.daload, 1) := dk_49 (dk_at dksX4_nextOf_2 13 rfl rfl)
theorem dX4_nextOf_60 : decode cX4_nextOf 60 = .ok (.aload_n 0, 1) := dk_42 (dk_at dksX4_nextOf_2 14 rfl rfl)
theorem dX4_nextOf_61 : decode cX4_nextOf 61 = .ok (.getfield 30, 3) := dk_180 0 30 (dk_at dksX4_nextOf_2 15 rfl rfl)
theorem dX4_nextOf_64 : decode cX4_nextOf 64 = .ok (.iload_n 2, 1) := dk_28 (dk_at dksX4_nextOf_2 18 rfl rfl)
theorem dX4_nextOf_65 : decode cX4_nextOf 65 = .ok (.daload, 1) := dk_49 (dk_at dksX4_nextOf_2 19 rfl rfl)
theorem dX4_nextOf_66 : decode cX4_nextOf 66 = .ok (.dcmp .l, 1) := dk_151 (dk_at dksX4_nextOf_2 20 rfl rfl)
theorem dX4_nextOf_67 : decode cX4_nextOf 67 = .ok (.ifCond .le 7, 3) := dk_158 0 7 (dk_at dksX4_nextOf_2 21 rfl rfl)
theorem dX4_nextOf_70 : decode cX4_nextOf 70 = .ok (.iload_n 3, 1) := dk_29 (dk_at dksX4_nextOf_3 0 rfl rfl)
theorem dX4_nextOf_71 : decode cX4_nextOf 71 = .ok (.goto 4, 3) := dk_167 0 4 (dk_at dksX4_nextOf_3 1 rfl rfl)
theorem dX4_nextOf_74 : decode cX4_nextOf 74 = .ok (.iload_n 2, 1) := dk_28 (dk_at dksX4_nextOf_3 4 rfl rfl)
theorem dX4_nextOf_75 : decode cX4_nextOf 75 = .ok (.istore_n 2, 1) := dk_61 (dk_at dksX4_nextOf_3 5 rfl rfl)
theorem dX4_nextOf_76 : decode cX4_nextOf 76 = .ok (.iinc 3 1, 3) := dk_132 3 1 (dk_at dksX4_nextOf_3 6 rfl rfl)
theorem dX4_nextOf_79 : decode cX4_nextOf 79 = .ok (.goto (-75), 3) := dk_167 255 181 (dk_at dksX4_nextOf_3 9 rfl rfl)
theorem dX4_nextOf_82 : decode cX4_nextOf 82 = .ok (.iload_n 2, 1) := dk_28 (dk_at dksX4_nextOf_3 12 rfl rfl)
theorem dX4_nextOf_83 : decode cX4_nextOf 83 = .ok (.ireturn, 1) := dk_172 (dk_at dksX4_nextOf_3 13 rfl rfl)
abbrev cX4_roundedMisfit : ByteArray := prog_11_method_47_code
def yX4_roundedMisfit : MethodName := ⟨RX4, "roundedMisfit", "()I"⟩
def dkwX4_roundedMisfit_0 : List UInt8 := [42, 3, 181, 0, 45, 42, 182, 0, 130, 172]
abbrev dktX4_roundedMisfit_0 : List UInt8 := dkwX4_roundedMisfit_0 ++ []
theorem dksX4_roundedMisfit_0 : cX4_roundedMisfit.data.toList.drop 0 = dktX4_roundedMisfit_0 := by decide +kernel
theorem dX4_roundedMisfit_0 : decode cX4_roundedMisfit 0 = .ok (.aload_n 0, 1) := dk_42 (dk_at dksX4_roundedMisfit_0 0 rfl rfl)
theorem dX4_roundedMisfit_1 : decode cX4_roundedMisfit 1 = .ok (.iconst 0, 1) := dk_3 (dk_at dksX4_roundedMisfit_0 1 rfl rfl)
theorem dX4_roundedMisfit_2 : decode cX4_roundedMisfit 2 = .ok (.putfield 45, 3) := dk_181 0 45 (dk_at dksX4_roundedMisfit_0 2 rfl rfl)
theorem dX4_roundedMisfit_5 : decode cX4_roundedMisfit 5 = .ok (.aload_n 0, 1) := dk_42 (dk_at dksX4_roundedMisfit_0 5 rfl rfl)
theorem dX4_roundedMisfit_6 : decode cX4_roundedMisfit 6 = .ok (.invokevirtual 130, 3) := dk_182 0 130 (dk_at dksX4_roundedMisfit_0 6 rfl rfl)
theorem dX4_roundedMisfit_9 : decode cX4_roundedMisfit 9 = .ok (.ireturn, 1) := dk_172 (dk_at dksX4_roundedMisfit_0 9 rfl rfl)
abbrev cX4_wholeMisfit : ByteArray := prog_11_method_46_code
def yX4_wholeMisfit : MethodName := ⟨RX4, "wholeMisfit", "()I"⟩
def dkwX4_wholeMisfit_3 : List UInt8 := [132, 2, 1, 167, 255, 191, 27, 172]
abbrev dktX4_wholeMisfit_3 : List UInt8 := dkwX4_wholeMisfit_3 ++ []
def dkwX4_wholeMisfit_2 : List UInt8 := [46, 96, 62, 132, 4, 1, 167, 255, 229, 27, 29, 156, 0, 8, 29, 116, 167, 0, 4, 29, 96, 60]
abbrev dktX4_wholeMisfit_2 : List UInt8 := dkwX4_wholeMisfit_2 ++ dktX4_wholeMisfit_3
def dkwX4_wholeMisfit_1 : List UInt8 := [3, 54, 4, 21, 4, 42, 180, 0, 7, 162, 0, 24, 29, 42, 180, 0, 27, 16, 6, 21, 4, 104, 28, 96]
abbrev dktX4_wholeMisfit_1 : List UInt8 := dkwX4_wholeMisfit_1 ++ dktX4_wholeMisfit_2
def dkwX4_wholeMisfit_0 : List UInt8 := [42, 182, 0, 127, 3, 60, 3, 61, 28, 42, 180, 0, 7, 162, 0, 63, 42, 180, 0, 17, 28, 46, 116, 62]
abbrev dktX4_wholeMisfit_0 : List UInt8 := dkwX4_wholeMisfit_0 ++ dktX4_wholeMisfit_1
theorem dksX4_wholeMisfit_0 : cX4_wholeMisfit.data.toList.drop 0 = dktX4_wholeMisfit_0 := by decide +kernel
theorem dksX4_wholeMisfit_1 : cX4_wholeMisfit.data.toList.drop 24 = dktX4_wholeMisfit_1 := dk_seg dksX4_wholeMisfit_0 24 rfl rfl
theorem dksX4_wholeMisfit_2 : cX4_wholeMisfit.data.toList.drop 48 = dktX4_wholeMisfit_2 := dk_seg dksX4_wholeMisfit_1 24 rfl rfl
theorem dksX4_wholeMisfit_3 : cX4_wholeMisfit.data.toList.drop 70 = dktX4_wholeMisfit_3 := dk_seg dksX4_wholeMisfit_2 22 rfl rfl
theorem dX4_wholeMisfit_0 : decode cX4_wholeMisfit 0 = .ok (.aload_n 0, 1) := dk_42 (dk_at dksX4_wholeMisfit_0 0 rfl rfl)
theorem dX4_wholeMisfit_1 : decode cX4_wholeMisfit 1 = .ok (.invokevirtual 127, 3) := dk_182 0 127 (dk_at dksX4_wholeMisfit_0 1 rfl rfl)
theorem dX4_wholeMisfit_4 : decode cX4_wholeMisfit 4 = .ok (.iconst 0, 1) := dk_3 (dk_at dksX4_wholeMisfit_0 4 rfl rfl)
theorem dX4_wholeMisfit_5 : decode cX4_wholeMisfit 5 = .ok (.istore_n 1, 1) := dk_60 (dk_at dksX4_wholeMisfit_0 5 rfl rfl)
theorem dX4_wholeMisfit_6 : decode cX4_wholeMisfit 6 = .ok (.iconst 0, 1) := dk_3 (dk_at dksX4_wholeMisfit_0 6 rfl rfl)
theorem dX4_wholeMisfit_7 : decode cX4_wholeMisfit 7 = .ok (.istore_n 2, 1) := dk_61 (dk_at dksX4_wholeMisfit_0 7 rfl rfl)
theorem dX4_wholeMisfit_8 : decode cX4_wholeMisfit 8 = .ok (.iload_n 2, 1) := dk_28 (dk_at dksX4_wholeMisfit_0 8 rfl rfl)
theorem dX4_wholeMisfit_9 : decode cX4_wholeMisfit 9 = .ok (.aload_n 0, 1) := dk_42 (dk_at dksX4_wholeMisfit_0 9 rfl rfl)
theorem dX4_wholeMisfit_10 : decode cX4_wholeMisfit 10 = .ok (.getfield 7, 3) := dk_180 0 7 (dk_at dksX4_wholeMisfit_0 10 rfl rfl)
theorem dX4_wholeMisfit_13 : decode cX4_wholeMisfit 13 = .ok (.if_icmp .ge 63, 3) := dk_162 0 63 (dk_at dksX4_wholeMisfit_0 13 rfl rfl)
theorem dX4_wholeMisfit_16 : decode cX4_wholeMisfit 16 = .ok (.aload_n 0, 1) := dk_42 (dk_at dksX4_wholeMisfit_0 16 rfl rfl)
theorem dX4_wholeMisfit_17 : decode cX4_wholeMisfit 17 = .ok (.getfield 17, 3) := dk_180 0 17 (dk_at dksX4_wholeMisfit_0 17 rfl rfl)
theorem dX4_wholeMisfit_20 : decode cX4_wholeMisfit 20 = .ok (.iload_n 2, 1) := dk_28 (dk_at dksX4_wholeMisfit_0 20 rfl rfl)
theorem dX4_wholeMisfit_21 : decode cX4_wholeMisfit 21 = .ok (.iaload, 1) := dk_46 (dk_at dksX4_wholeMisfit_0 21 rfl rfl)
theorem dX4_wholeMisfit_22 : decode cX4_wholeMisfit 22 = .ok (.ineg, 1) := dk_116 (dk_at dksX4_wholeMisfit_0 22 rfl rfl)
theorem dX4_wholeMisfit_23 : decode cX4_wholeMisfit 23 = .ok (.istore_n 3, 1) := dk_62 (dk_at dksX4_wholeMisfit_0 23 rfl rfl)
theorem dX4_wholeMisfit_24 : decode cX4_wholeMisfit 24 = .ok (.iconst 0, 1) := dk_3 (dk_at dksX4_wholeMisfit_1 0 rfl rfl)
theorem dX4_wholeMisfit_25 : decode cX4_wholeMisfit 25 = .ok (.istore 4, 2) := dk_54 4 (dk_at dksX4_wholeMisfit_1 1 rfl rfl)
theorem dX4_wholeMisfit_27 : decode cX4_wholeMisfit 27 = .ok (.iload 4, 2) := dk_21 4 (dk_at dksX4_wholeMisfit_1 3 rfl rfl)
theorem dX4_wholeMisfit_29 : decode cX4_wholeMisfit 29 = .ok (.aload_n 0, 1) := dk_42 (dk_at dksX4_wholeMisfit_1 5 rfl rfl)
theorem dX4_wholeMisfit_30 : decode cX4_wholeMisfit 30 = .ok (.getfield 7, 3) := dk_180 0 7 (dk_at dksX4_wholeMisfit_1 6 rfl rfl)
theorem dX4_wholeMisfit_33 : decode cX4_wholeMisfit 33 = .ok (.if_icmp .ge 24, 3) := dk_162 0 24 (dk_at dksX4_wholeMisfit_1 9 rfl rfl)
theorem dX4_wholeMisfit_36 : decode cX4_wholeMisfit 36 = .ok (.iload_n 3, 1) := dk_29 (dk_at dksX4_wholeMisfit_1 12 rfl rfl)
theorem dX4_wholeMisfit_37 : decode cX4_wholeMisfit 37 = .ok (.aload_n 0, 1) := dk_42 (dk_at dksX4_wholeMisfit_1 13 rfl rfl)
theorem dX4_wholeMisfit_38 : decode cX4_wholeMisfit 38 = .ok (.getfield 27, 3) := dk_180 0 27 (dk_at dksX4_wholeMisfit_1 14 rfl rfl)
theorem dX4_wholeMisfit_41 : decode cX4_wholeMisfit 41 = .ok (.bipush 6, 2) := dk_16 6 (dk_at dksX4_wholeMisfit_1 17 rfl rfl)
theorem dX4_wholeMisfit_43 : decode cX4_wholeMisfit 43 = .ok (.iload 4, 2) := dk_21 4 (dk_at dksX4_wholeMisfit_1 19 rfl rfl)
theorem dX4_wholeMisfit_45 : decode cX4_wholeMisfit 45 = .ok (.imul, 1) := dk_104 (dk_at dksX4_wholeMisfit_1 21 rfl rfl)
theorem dX4_wholeMisfit_46 : decode cX4_wholeMisfit 46 = .ok (.iload_n 2, 1) := dk_28 (dk_at dksX4_wholeMisfit_1 22 rfl rfl)
theorem dX4_wholeMisfit_47 : decode cX4_wholeMisfit 47 = .ok (.iadd, 1) := dk_96 (dk_at dksX4_wholeMisfit_1 23 rfl rfl)
theorem dX4_wholeMisfit_48 : decode cX4_wholeMisfit 48 = .ok (.iaload, 1) := dk_46 (dk_at dksX4_wholeMisfit_2 0 rfl rfl)
theorem dX4_wholeMisfit_49 : decode cX4_wholeMisfit 49 = .ok (.iadd, 1) := dk_96 (dk_at dksX4_wholeMisfit_2 1 rfl rfl)
theorem dX4_wholeMisfit_50 : decode cX4_wholeMisfit 50 = .ok (.istore_n 3, 1) := dk_62 (dk_at dksX4_wholeMisfit_2 2 rfl rfl)
theorem dX4_wholeMisfit_51 : decode cX4_wholeMisfit 51 = .ok (.iinc 4 1, 3) := dk_132 4 1 (dk_at dksX4_wholeMisfit_2 3 rfl rfl)
theorem dX4_wholeMisfit_54 : decode cX4_wholeMisfit 54 = .ok (.goto (-27), 3) := dk_167 255 229 (dk_at dksX4_wholeMisfit_2 6 rfl rfl)
theorem dX4_wholeMisfit_57 : decode cX4_wholeMisfit 57 = .ok (.iload_n 1, 1) := dk_27 (dk_at dksX4_wholeMisfit_2 9 rfl rfl)
theorem dX4_wholeMisfit_58 : decode cX4_wholeMisfit 58 = .ok (.iload_n 3, 1) := dk_29 (dk_at dksX4_wholeMisfit_2 10 rfl rfl)
theorem dX4_wholeMisfit_59 : decode cX4_wholeMisfit 59 = .ok (.ifCond .ge 8, 3) := dk_156 0 8 (dk_at dksX4_wholeMisfit_2 11 rfl rfl)
theorem dX4_wholeMisfit_62 : decode cX4_wholeMisfit 62 = .ok (.iload_n 3, 1) := dk_29 (dk_at dksX4_wholeMisfit_2 14 rfl rfl)
theorem dX4_wholeMisfit_63 : decode cX4_wholeMisfit 63 = .ok (.ineg, 1) := dk_116 (dk_at dksX4_wholeMisfit_2 15 rfl rfl)
theorem dX4_wholeMisfit_64 : decode cX4_wholeMisfit 64 = .ok (.goto 4, 3) := dk_167 0 4 (dk_at dksX4_wholeMisfit_2 16 rfl rfl)
theorem dX4_wholeMisfit_67 : decode cX4_wholeMisfit 67 = .ok (.iload_n 3, 1) := dk_29 (dk_at dksX4_wholeMisfit_2 19 rfl rfl)
theorem dX4_wholeMisfit_68 : decode cX4_wholeMisfit 68 = .ok (.iadd, 1) := dk_96 (dk_at dksX4_wholeMisfit_2 20 rfl rfl)
theorem dX4_wholeMisfit_69 : decode cX4_wholeMisfit 69 = .ok (.istore_n 1, 1) := dk_60 (dk_at dksX4_wholeMisfit_2 21 rfl rfl)
theorem dX4_wholeMisfit_70 : decode cX4_wholeMisfit 70 = .ok (.iinc 2 1, 3) := dk_132 2 1 (dk_at dksX4_wholeMisfit_3 0 rfl rfl)
theorem dX4_wholeMisfit_73 : decode cX4_wholeMisfit 73 = .ok (.goto (-65), 3) := dk_167 255 191 (dk_at dksX4_wholeMisfit_3 3 rfl rfl)
theorem dX4_wholeMisfit_76 : decode cX4_wholeMisfit 76 = .ok (.iload_n 1, 1) := dk_27 (dk_at dksX4_wholeMisfit_3 6 rfl rfl)
theorem dX4_wholeMisfit_77 : decode cX4_wholeMisfit 77 = .ok (.ireturn, 1) := dk_172 (dk_at dksX4_wholeMisfit_3 7 rfl rfl)
abbrev cX4_layWhole : ByteArray := prog_11_method_44_code
def yX4_layWhole : MethodName := ⟨RX4, "layWhole", "()V"⟩
def dkwX4_layWhole_0 : List UInt8 := [3, 60, 27, 42, 180, 0, 7, 162, 0, 14, 42, 27, 182, 0, 124, 132, 1, 1, 167, 255, 240, 177]
abbrev dktX4_layWhole_0 : List UInt8 := dkwX4_layWhole_0 ++ []
theorem dksX4_layWhole_0 : cX4_layWhole.data.toList.drop 0 = dktX4_layWhole_0 := by decide +kernel
theorem dX4_layWhole_0 : decode cX4_layWhole 0 = .ok (.iconst 0, 1) := dk_3 (dk_at dksX4_layWhole_0 0 rfl rfl)
theorem dX4_layWhole_1 : decode cX4_layWhole 1 = .ok (.istore_n 1, 1) := dk_60 (dk_at dksX4_layWhole_0 1 rfl rfl)
theorem dX4_layWhole_2 : decode cX4_layWhole 2 = .ok (.iload_n 1, 1) := dk_27 (dk_at dksX4_layWhole_0 2 rfl rfl)
theorem dX4_layWhole_3 : decode cX4_layWhole 3 = .ok (.aload_n 0, 1) := dk_42 (dk_at dksX4_layWhole_0 3 rfl rfl)
theorem dX4_layWhole_4 : decode cX4_layWhole 4 = .ok (.getfield 7, 3) := dk_180 0 7 (dk_at dksX4_layWhole_0 4 rfl rfl)
theorem dX4_layWhole_7 : decode cX4_layWhole 7 = .ok (.if_icmp .ge 14, 3) := dk_162 0 14 (dk_at dksX4_layWhole_0 7 rfl rfl)
theorem dX4_layWhole_10 : decode cX4_layWhole 10 = .ok (.aload_n 0, 1) := dk_42 (dk_at dksX4_layWhole_0 10 rfl rfl)
theorem dX4_layWhole_11 : decode cX4_layWhole 11 = .ok (.iload_n 1, 1) := dk_27 (dk_at dksX4_layWhole_0 11 rfl rfl)
theorem dX4_layWhole_12 : decode cX4_layWhole 12 = .ok (.invokevirtual 124, 3) := dk_182 0 124 (dk_at dksX4_layWhole_0 12 rfl rfl)
theorem dX4_layWhole_15 : decode cX4_layWhole 15 = .ok (.iinc 1 1, 3) := dk_132 1 1 (dk_at dksX4_layWhole_0 15 rfl rfl)
theorem dX4_layWhole_18 : decode cX4_layWhole 18 = .ok (.goto (-16), 3) := dk_167 255 240 (dk_at dksX4_layWhole_0 18 rfl rfl)
theorem dX4_layWhole_21 : decode cX4_layWhole 21 = .ok (.return_, 1) := dk_177 (dk_at dksX4_layWhole_0 21 rfl rfl)
abbrev cX4_possible : ByteArray := prog_11_method_52_code
def yX4_possible : MethodName := ⟨RX4, "possible", "(II)I"⟩
def dkwX4_possible_1 : List UInt8 := [158, 0, 7, 3, 167, 0, 9, 42, 27, 28, 182, 0, 143, 172]
abbrev dktX4_possible_1 : List UInt8 := dkwX4_possible_1 ++ []
def dkwX4_possible_0 : List UInt8 := [42, 42, 27, 28, 182, 0, 112, 153, 0, 7, 3, 167, 0, 4, 4, 181, 0, 45, 42, 180, 0, 45]
abbrev dktX4_possible_0 : List UInt8 := dkwX4_possible_0 ++ dktX4_possible_1
theorem dksX4_possible_0 : cX4_possible.data.toList.drop 0 = dktX4_possible_0 := by decide +kernel
theorem dksX4_possible_1 : cX4_possible.data.toList.drop 22 = dktX4_possible_1 := dk_seg dksX4_possible_0 22 rfl rfl
theorem dX4_possible_0 : decode cX4_possible 0 = .ok (.aload_n 0, 1) := dk_42 (dk_at dksX4_possible_0 0 rfl rfl)
theorem dX4_possible_1 : decode cX4_possible 1 = .ok (.aload_n 0, 1) := dk_42 (dk_at dksX4_possible_0 1 rfl rfl)
theorem dX4_possible_2 : decode cX4_possible 2 = .ok (.iload_n 1, 1) := dk_27 (dk_at dksX4_possible_0 2 rfl rfl)
theorem dX4_possible_3 : decode cX4_possible 3 = .ok (.iload_n 2, 1) := dk_28 (dk_at dksX4_possible_0 3 rfl rfl)
theorem dX4_possible_4 : decode cX4_possible 4 = .ok (.invokevirtual 112, 3) := dk_182 0 112 (dk_at dksX4_possible_0 4 rfl rfl)
theorem dX4_possible_7 : decode cX4_possible 7 = .ok (.ifCond .eq 7, 3) := dk_153 0 7 (dk_at dksX4_possible_0 7 rfl rfl)
theorem dX4_possible_10 : decode cX4_possible 10 = .ok (.iconst 0, 1) := dk_3 (dk_at dksX4_possible_0 10 rfl rfl)
theorem dX4_possible_11 : decode cX4_possible 11 = .ok (.goto 4, 3) := dk_167 0 4 (dk_at dksX4_possible_0 11 rfl rfl)
theorem dX4_possible_14 : decode cX4_possible 14 = .ok (.iconst 1, 1) := dk_4 (dk_at dksX4_possible_0 14 rfl rfl)
theorem dX4_possible_15 : decode cX4_possible 15 = .ok (.putfield 45, 3) := dk_181 0 45 (dk_at dksX4_possible_0 15 rfl rfl)
theorem dX4_possible_18 : decode cX4_possible 18 = .ok (.aload_n 0, 1) := dk_42 (dk_at dksX4_possible_0 18 rfl rfl)
theorem dX4_possible_19 : decode cX4_possible 19 = .ok (.getfield 45, 3) := dk_180 0 45 (dk_at dksX4_possible_0 19 rfl rfl)
theorem dX4_possible_22 : decode cX4_possible 22 = .ok (.ifCond .le 7, 3) := dk_158 0 7 (dk_at dksX4_possible_1 0 rfl rfl)
theorem dX4_possible_25 : decode cX4_possible 25 = .ok (.iconst 0, 1) := dk_3 (dk_at dksX4_possible_1 3 rfl rfl)
theorem dX4_possible_26 : decode cX4_possible 26 = .ok (.goto 9, 3) := dk_167 0 9 (dk_at dksX4_possible_1 4 rfl rfl)
theorem dX4_possible_29 : decode cX4_possible 29 = .ok (.aload_n 0, 1) := dk_42 (dk_at dksX4_possible_1 7 rfl rfl)
theorem dX4_possible_30 : decode cX4_possible 30 = .ok (.iload_n 1, 1) := dk_27 (dk_at dksX4_possible_1 8 rfl rfl)
theorem dX4_possible_31 : decode cX4_possible 31 = .ok (.iload_n 2, 1) := dk_28 (dk_at dksX4_possible_1 9 rfl rfl)
theorem dX4_possible_32 : decode cX4_possible 32 = .ok (.invokevirtual 143, 3) := dk_182 0 143 (dk_at dksX4_possible_1 10 rfl rfl)
theorem dX4_possible_35 : decode cX4_possible 35 = .ok (.ireturn, 1) := dk_172 (dk_at dksX4_possible_1 13 rfl rfl)
abbrev cX4_possibleNow : ByteArray := prog_11_method_51_code
def yX4_possibleNow : MethodName := ⟨RX4, "possibleNow", "(II)I"⟩
def dkwX4_possibleNow_1 : List UInt8 := [172]
abbrev dktX4_possibleNow_1 : List UInt8 := dkwX4_possibleNow_1 ++ []
def dkwX4_possibleNow_0 : List UInt8 := [42, 182, 0, 80, 154, 0, 5, 2, 172, 42, 182, 0, 140, 42, 180, 0, 33, 16, 6, 27, 104, 28, 96, 46]
abbrev dktX4_possibleNow_0 : List UInt8 := dkwX4_possibleNow_0 ++ dktX4_possibleNow_1
theorem dksX4_possibleNow_0 : cX4_possibleNow.data.toList.drop 0 = dktX4_possibleNow_0 := by decide +kernel
theorem dksX4_possibleNow_1 : cX4_possibleNow.data.toList.drop 24 = dktX4_possibleNow_1 := dk_seg dksX4_possibleNow_0 24 rfl rfl
theorem dX4_possibleNow_0 : decode cX4_possibleNow 0 = .ok (.aload_n 0, 1) := dk_42 (dk_at dksX4_possibleNow_0 0 rfl rfl)
theorem dX4_possibleNow_1 : decode cX4_possibleNow 1 = .ok (.invokevirtual 80, 3) := dk_182 0 80 (dk_at dksX4_possibleNow_0 1 rfl rfl)
theorem dX4_possibleNow_4 : decode cX4_possibleNow 4 = .ok (.ifCond .ne 5, 3) := dk_154 0 5 (dk_at dksX4_possibleNow_0 4 rfl rfl)
theorem dX4_possibleNow_7 : decode cX4_possibleNow 7 = .ok (.iconst (-1), 1) := dk_2 (dk_at dksX4_possibleNow_0 7 rfl rfl)
theorem dX4_possibleNow_8 : decode cX4_possibleNow 8 = .ok (.ireturn, 1) := dk_172 (dk_at dksX4_possibleNow_0 8 rfl rfl)
theorem dX4_possibleNow_9 : decode cX4_possibleNow 9 = .ok (.aload_n 0, 1) := dk_42 (dk_at dksX4_possibleNow_0 9 rfl rfl)
theorem dX4_possibleNow_10 : decode cX4_possibleNow 10 = .ok (.invokevirtual 140, 3) := dk_182 0 140 (dk_at dksX4_possibleNow_0 10 rfl rfl)
theorem dX4_possibleNow_13 : decode cX4_possibleNow 13 = .ok (.aload_n 0, 1) := dk_42 (dk_at dksX4_possibleNow_0 13 rfl rfl)
theorem dX4_possibleNow_14 : decode cX4_possibleNow 14 = .ok (.getfield 33, 3) := dk_180 0 33 (dk_at dksX4_possibleNow_0 14 rfl rfl)
theorem dX4_possibleNow_17 : decode cX4_possibleNow 17 = .ok (.bipush 6, 2) := dk_16 6 (dk_at dksX4_possibleNow_0 17 rfl rfl)
theorem dX4_possibleNow_19 : decode cX4_possibleNow 19 = .ok (.iload_n 1, 1) := dk_27 (dk_at dksX4_possibleNow_0 19 rfl rfl)
theorem dX4_possibleNow_20 : decode cX4_possibleNow 20 = .ok (.imul, 1) := dk_104 (dk_at dksX4_possibleNow_0 20 rfl rfl)
theorem dX4_possibleNow_21 : decode cX4_possibleNow 21 = .ok (.iload_n 2, 1) := dk_28 (dk_at dksX4_possibleNow_0 21 rfl rfl)
theorem dX4_possibleNow_22 : decode cX4_possibleNow 22 = .ok (.iadd, 1) := dk_96 (dk_at dksX4_possibleNow_0 22 rfl rfl)
theorem dX4_possibleNow_23 : decode cX4_possibleNow 23 = .ok (.iaload, 1) := dk_46 (dk_at dksX4_possibleNow_0 23 rfl rfl)
theorem dX4_possibleNow_24 : decode cX4_possibleNow 24 = .ok (.ireturn, 1) := dk_172 (dk_at dksX4_possibleNow_1 0 rfl rfl)
abbrev cX4_layTable : ByteArray := prog_11_method_50_code
def yX4_layTable : MethodName := ⟨RX4, "layTable", "()V"⟩
def dkwX4_layTable_3 : List UInt8 := [167, 255, 239, 132, 1, 1, 167, 255, 223, 177]
abbrev dktX4_layTable_3 : List UInt8 := dkwX4_layTable_3 ++ []
def dkwX4_layTable_2 : List UInt8 := [162, 0, 31, 3, 61, 28, 42, 180, 0, 7, 162, 0, 15, 42, 27, 28, 182, 0, 136, 132, 2, 1]
abbrev dktX4_layTable_2 : List UInt8 := dkwX4_layTable_2 ++ dktX4_layTable_3
def dkwX4_layTable_1 : List UInt8 := [180, 0, 39, 27, 42, 180, 0, 17, 27, 46, 79, 132, 1, 1, 167, 255, 221, 3, 60, 27, 42, 180, 0, 7]
abbrev dktX4_layTable_1 : List UInt8 := dkwX4_layTable_1 ++ dktX4_layTable_2
def dkwX4_layTable_0 : List UInt8 := [3, 60, 27, 42, 180, 0, 7, 162, 0, 33, 42, 180, 0, 36, 27, 42, 180, 0, 13, 27, 46, 79, 42]
abbrev dktX4_layTable_0 : List UInt8 := dkwX4_layTable_0 ++ dktX4_layTable_1
theorem dksX4_layTable_0 : cX4_layTable.data.toList.drop 0 = dktX4_layTable_0 := by decide +kernel
theorem dksX4_layTable_1 : cX4_layTable.data.toList.drop 23 = dktX4_layTable_1 := dk_seg dksX4_layTable_0 23 rfl rfl
theorem dksX4_layTable_2 : cX4_layTable.data.toList.drop 47 = dktX4_layTable_2 := dk_seg dksX4_layTable_1 24 rfl rfl
theorem dksX4_layTable_3 : cX4_layTable.data.toList.drop 69 = dktX4_layTable_3 := dk_seg dksX4_layTable_2 22 rfl rfl
theorem dX4_layTable_0 : decode cX4_layTable 0 = .ok (.iconst 0, 1) := dk_3 (dk_at dksX4_layTable_0 0 rfl rfl)
theorem dX4_layTable_1 : decode cX4_layTable 1 = .ok (.istore_n 1, 1) := dk_60 (dk_at dksX4_layTable_0 1 rfl rfl)
theorem dX4_layTable_2 : decode cX4_layTable 2 = .ok (.iload_n 1, 1) := dk_27 (dk_at dksX4_layTable_0 2 rfl rfl)
theorem dX4_layTable_3 : decode cX4_layTable 3 = .ok (.aload_n 0, 1) := dk_42 (dk_at dksX4_layTable_0 3 rfl rfl)
theorem dX4_layTable_4 : decode cX4_layTable 4 = .ok (.getfield 7, 3) := dk_180 0 7 (dk_at dksX4_layTable_0 4 rfl rfl)
theorem dX4_layTable_7 : decode cX4_layTable 7 = .ok (.if_icmp .ge 33, 3) := dk_162 0 33 (dk_at dksX4_layTable_0 7 rfl rfl)
theorem dX4_layTable_10 : decode cX4_layTable 10 = .ok (.aload_n 0, 1) := dk_42 (dk_at dksX4_layTable_0 10 rfl rfl)
theorem dX4_layTable_11 : decode cX4_layTable 11 = .ok (.getfield 36, 3) := dk_180 0 36 (dk_at dksX4_layTable_0 11 rfl rfl)
theorem dX4_layTable_14 : decode cX4_layTable 14 = .ok (.iload_n 1, 1) := dk_27 (dk_at dksX4_layTable_0 14 rfl rfl)
theorem dX4_layTable_15 : decode cX4_layTable 15 = .ok (.aload_n 0, 1) := dk_42 (dk_at dksX4_layTable_0 15 rfl rfl)
theorem dX4_layTable_16 : decode cX4_layTable 16 = .ok (.getfield 13, 3) := dk_180 0 13 (dk_at dksX4_layTable_0 16 rfl rfl)
theorem dX4_layTable_19 : decode cX4_layTable 19 = .ok (.iload_n 1, 1) := dk_27 (dk_at dksX4_layTable_0 19 rfl rfl)
theorem dX4_layTable_20 : decode cX4_layTable 20 = .ok (.iaload, 1) := dk_46 (dk_at dksX4_layTable_0 20 rfl rfl)
theorem dX4_layTable_21 : decode cX4_layTable 21 = .ok (.iastore, 1) := dk_79 (dk_at dksX4_layTable_0 21 rfl rfl)
theorem dX4_layTable_22 : decode cX4_layTable 22 = .ok (.aload_n 0, 1) := dk_42 (dk_at dksX4_layTable_0 22 rfl rfl)
theorem dX4_layTable_23 : decode cX4_layTable 23 = .ok (.getfield 39, 3) := dk_180 0 39 (dk_at dksX4_layTable_1 0 rfl rfl)
theorem dX4_layTable_26 : decode cX4_layTable 26 = .ok (.iload_n 1, 1) := dk_27 (dk_at dksX4_layTable_1 3 rfl rfl)
theorem dX4_layTable_27 : decode cX4_layTable 27 = .ok (.aload_n 0, 1) := dk_42 (dk_at dksX4_layTable_1 4 rfl rfl)
theorem dX4_layTable_28 : decode cX4_layTable 28 = .ok (.getfield 17, 3) := dk_180 0 17 (dk_at dksX4_layTable_1 5 rfl rfl)
theorem dX4_layTable_31 : decode cX4_layTable 31 = .ok (.iload_n 1, 1) := dk_27 (dk_at dksX4_layTable_1 8 rfl rfl)
theorem dX4_layTable_32 : decode cX4_layTable 32 = .ok (.iaload, 1) := dk_46 (dk_at dksX4_layTable_1 9 rfl rfl)
theorem dX4_layTable_33 : decode cX4_layTable 33 = .ok (.iastore, 1) := dk_79 (dk_at dksX4_layTable_1 10 rfl rfl)
theorem dX4_layTable_34 : decode cX4_layTable 34 = .ok (.iinc 1 1, 3) := dk_132 1 1 (dk_at dksX4_layTable_1 11 rfl rfl)
theorem dX4_layTable_37 : decode cX4_layTable 37 = .ok (.goto (-35), 3) := dk_167 255 221 (dk_at dksX4_layTable_1 14 rfl rfl)
theorem dX4_layTable_40 : decode cX4_layTable 40 = .ok (.iconst 0, 1) := dk_3 (dk_at dksX4_layTable_1 17 rfl rfl)
theorem dX4_layTable_41 : decode cX4_layTable 41 = .ok (.istore_n 1, 1) := dk_60 (dk_at dksX4_layTable_1 18 rfl rfl)
theorem dX4_layTable_42 : decode cX4_layTable 42 = .ok (.iload_n 1, 1) := dk_27 (dk_at dksX4_layTable_1 19 rfl rfl)
theorem dX4_layTable_43 : decode cX4_layTable 43 = .ok (.aload_n 0, 1) := dk_42 (dk_at dksX4_layTable_1 20 rfl rfl)
theorem dX4_layTable_44 : decode cX4_layTable 44 = .ok (.getfield 7, 3) := dk_180 0 7 (dk_at dksX4_layTable_1 21 rfl rfl)
theorem dX4_layTable_47 : decode cX4_layTable 47 = .ok (.if_icmp .ge 31, 3) := dk_162 0 31 (dk_at dksX4_layTable_2 0 rfl rfl)
theorem dX4_layTable_50 : decode cX4_layTable 50 = .ok (.iconst 0, 1) := dk_3 (dk_at dksX4_layTable_2 3 rfl rfl)
theorem dX4_layTable_51 : decode cX4_layTable 51 = .ok (.istore_n 2, 1) := dk_61 (dk_at dksX4_layTable_2 4 rfl rfl)
theorem dX4_layTable_52 : decode cX4_layTable 52 = .ok (.iload_n 2, 1) := dk_28 (dk_at dksX4_layTable_2 5 rfl rfl)
theorem dX4_layTable_53 : decode cX4_layTable 53 = .ok (.aload_n 0, 1) := dk_42 (dk_at dksX4_layTable_2 6 rfl rfl)
theorem dX4_layTable_54 : decode cX4_layTable 54 = .ok (.getfield 7, 3) := dk_180 0 7 (dk_at dksX4_layTable_2 7 rfl rfl)
theorem dX4_layTable_57 : decode cX4_layTable 57 = .ok (.if_icmp .ge 15, 3) := dk_162 0 15 (dk_at dksX4_layTable_2 10 rfl rfl)
theorem dX4_layTable_60 : decode cX4_layTable 60 = .ok (.aload_n 0, 1) := dk_42 (dk_at dksX4_layTable_2 13 rfl rfl)
theorem dX4_layTable_61 : decode cX4_layTable 61 = .ok (.iload_n 1, 1) := dk_27 (dk_at dksX4_layTable_2 14 rfl rfl)
theorem dX4_layTable_62 : decode cX4_layTable 62 = .ok (.iload_n 2, 1) := dk_28 (dk_at dksX4_layTable_2 15 rfl rfl)
theorem dX4_layTable_63 : decode cX4_layTable 63 = .ok (.invokevirtual 136, 3) := dk_182 0 136 (dk_at dksX4_layTable_2 16 rfl rfl)
theorem dX4_layTable_66 : decode cX4_layTable 66 = .ok (.iinc 2 1, 3) := dk_132 2 1 (dk_at dksX4_layTable_2 19 rfl rfl)
theorem dX4_layTable_69 : decode cX4_layTable 69 = .ok (.goto (-17), 3) := dk_167 255 239 (dk_at dksX4_layTable_3 0 rfl rfl)
theorem dX4_layTable_72 : decode cX4_layTable 72 = .ok (.iinc 1 1, 3) := dk_132 1 1 (dk_at dksX4_layTable_3 3 rfl rfl)
theorem dX4_layTable_75 : decode cX4_layTable 75 = .ok (.goto (-33), 3) := dk_167 255 223 (dk_at dksX4_layTable_3 6 rfl rfl)
theorem dX4_layTable_78 : decode cX4_layTable 78 = .ok (.return_, 1) := dk_177 (dk_at dksX4_layTable_3 9 rfl rfl)
abbrev cX4_layCell : ByteArray := prog_11_method_49_code
def yX4_layCell : MethodName := ⟨RX4, "layCell", "(II)V"⟩
def dkwX4_layCell_6 : List UInt8 := [79, 177]
abbrev dktX4_layCell_6 : List UInt8 := dkwX4_layCell_6 ++ []
def dkwX4_layCell_5 : List UInt8 := [21, 4, 79, 42, 180, 0, 36, 27, 92, 46, 21, 4, 100, 79, 42, 180, 0, 39, 28, 92, 46, 21, 4, 100]
abbrev dktX4_layCell_5 : List UInt8 := dkwX4_layCell_5 ++ dktX4_layCell_6
def dkwX4_layCell_4 : List UInt8 := [28, 96, 46, 158, 0, 7, 29, 167, 0, 4, 3, 54, 4, 42, 180, 0, 33, 16, 6, 27, 104, 28, 96]
abbrev dktX4_layCell_4 : List UInt8 := dkwX4_layCell_4 ++ dktX4_layCell_5
def dkwX4_layCell_3 : List UInt8 := [162, 0, 8, 21, 5, 167, 0, 4, 29, 62, 132, 4, 1, 167, 255, 205, 42, 180, 0, 20, 16, 6, 27, 104]
abbrev dktX4_layCell_3 : List UInt8 := dkwX4_layCell_3 ++ dktX4_layCell_4
def dkwX4_layCell_2 : List UInt8 := [4, 96, 122, 27, 4, 96, 120, 21, 4, 160, 0, 25, 42, 21, 4, 28, 182, 0, 133, 54, 5, 21, 5, 29]
abbrev dktX4_layCell_2 : List UInt8 := dkwX4_layCell_2 ++ dktX4_layCell_3
def dkwX4_layCell_1 : List UInt8 := [42, 180, 0, 39, 28, 46, 62, 3, 54, 4, 21, 4, 4, 42, 180, 0, 7, 120, 162, 0, 46, 21, 4, 27]
abbrev dktX4_layCell_1 : List UInt8 := dkwX4_layCell_1 ++ dktX4_layCell_2
def dkwX4_layCell_0 : List UInt8 := [42, 180, 0, 36, 27, 46, 42, 180, 0, 39, 28, 46, 162, 0, 12, 42, 180, 0, 36, 27, 46, 167, 0, 9]
abbrev dktX4_layCell_0 : List UInt8 := dkwX4_layCell_0 ++ dktX4_layCell_1
theorem dksX4_layCell_0 : cX4_layCell.data.toList.drop 0 = dktX4_layCell_0 := by decide +kernel
theorem dksX4_layCell_1 : cX4_layCell.data.toList.drop 24 = dktX4_layCell_1 := dk_seg dksX4_layCell_0 24 rfl rfl
theorem dksX4_layCell_2 : cX4_layCell.data.toList.drop 48 = dktX4_layCell_2 := dk_seg dksX4_layCell_1 24 rfl rfl
theorem dksX4_layCell_3 : cX4_layCell.data.toList.drop 72 = dktX4_layCell_3 := dk_seg dksX4_layCell_2 24 rfl rfl
theorem dksX4_layCell_4 : cX4_layCell.data.toList.drop 96 = dktX4_layCell_4 := dk_seg dksX4_layCell_3 24 rfl rfl
theorem dksX4_layCell_5 : cX4_layCell.data.toList.drop 119 = dktX4_layCell_5 := dk_seg dksX4_layCell_4 23 rfl rfl
theorem dksX4_layCell_6 : cX4_layCell.data.toList.drop 143 = dktX4_layCell_6 := dk_seg dksX4_layCell_5 24 rfl rfl
theorem dX4_layCell_0 : decode cX4_layCell 0 = .ok (.aload_n 0, 1) := dk_42 (dk_at dksX4_layCell_0 0 rfl rfl)
theorem dX4_layCell_1 : decode cX4_layCell 1 = .ok (.getfield 36, 3) := dk_180 0 36 (dk_at dksX4_layCell_0 1 rfl rfl)
theorem dX4_layCell_4 : decode cX4_layCell 4 = .ok (.iload_n 1, 1) := dk_27 (dk_at dksX4_layCell_0 4 rfl rfl)
theorem dX4_layCell_5 : decode cX4_layCell 5 = .ok (.iaload, 1) := dk_46 (dk_at dksX4_layCell_0 5 rfl rfl)
theorem dX4_layCell_6 : decode cX4_layCell 6 = .ok (.aload_n 0, 1) := dk_42 (dk_at dksX4_layCell_0 6 rfl rfl)
theorem dX4_layCell_7 : decode cX4_layCell 7 = .ok (.getfield 39, 3) := dk_180 0 39 (dk_at dksX4_layCell_0 7 rfl rfl)
theorem dX4_layCell_10 : decode cX4_layCell 10 = .ok (.iload_n 2, 1) := dk_28 (dk_at dksX4_layCell_0 10 rfl rfl)
theorem dX4_layCell_11 : decode cX4_layCell 11 = .ok (.iaload, 1) := dk_46 (dk_at dksX4_layCell_0 11 rfl rfl)
theorem dX4_layCell_12 : decode cX4_layCell 12 = .ok (.if_icmp .ge 12, 3) := dk_162 0 12 (dk_at dksX4_layCell_0 12 rfl rfl)
theorem dX4_layCell_15 : decode cX4_layCell 15 = .ok (.aload_n 0, 1) := dk_42 (dk_at dksX4_layCell_0 15 rfl rfl)
theorem dX4_layCell_16 : decode cX4_layCell 16 = .ok (.getfield 36, 3) := dk_180 0 36 (dk_at dksX4_layCell_0 16 rfl rfl)
theorem dX4_layCell_19 : decode cX4_layCell 19 = .ok (.iload_n 1, 1) := dk_27 (dk_at dksX4_layCell_0 19 rfl rfl)
theorem dX4_layCell_20 : decode cX4_layCell 20 = .ok (.iaload, 1) := dk_46 (dk_at dksX4_layCell_0 20 rfl rfl)
theorem dX4_layCell_21 : decode cX4_layCell 21 = .ok (.goto 9, 3) := dk_167 0 9 (dk_at dksX4_layCell_0 21 rfl rfl)
theorem dX4_layCell_24 : decode cX4_layCell 24 = .ok (.aload_n 0, 1) := dk_42 (dk_at dksX4_layCell_1 0 rfl rfl)
theorem dX4_layCell_25 : decode cX4_layCell 25 = .ok (.getfield 39, 3) := dk_180 0 39 (dk_at dksX4_layCell_1 1 rfl rfl)
theorem dX4_layCell_28 : decode cX4_layCell 28 = .ok (.iload_n 2, 1) := dk_28 (dk_at dksX4_layCell_1 4 rfl rfl)
theorem dX4_layCell_29 : decode cX4_layCell 29 = .ok (.iaload, 1) := dk_46 (dk_at dksX4_layCell_1 5 rfl rfl)
theorem dX4_layCell_30 : decode cX4_layCell 30 = .ok (.istore_n 3, 1) := dk_62 (dk_at dksX4_layCell_1 6 rfl rfl)
theorem dX4_layCell_31 : decode cX4_layCell 31 = .ok (.iconst 0, 1) := dk_3 (dk_at dksX4_layCell_1 7 rfl rfl)
theorem dX4_layCell_32 : decode cX4_layCell 32 = .ok (.istore 4, 2) := dk_54 4 (dk_at dksX4_layCell_1 8 rfl rfl)
theorem dX4_layCell_34 : decode cX4_layCell 34 = .ok (.iload 4, 2) := dk_21 4 (dk_at dksX4_layCell_1 10 rfl rfl)
theorem dX4_layCell_36 : decode cX4_layCell 36 = .ok (.iconst 1, 1) := dk_4 (dk_at dksX4_layCell_1 12 rfl rfl)
theorem dX4_layCell_37 : decode cX4_layCell 37 = .ok (.aload_n 0, 1) := dk_42 (dk_at dksX4_layCell_1 13 rfl rfl)
theorem dX4_layCell_38 : decode cX4_layCell 38 = .ok (.getfield 7, 3) := dk_180 0 7 (dk_at dksX4_layCell_1 14 rfl rfl)
theorem dX4_layCell_41 : decode cX4_layCell 41 = .ok (.ishl, 1) := dk_120 (dk_at dksX4_layCell_1 17 rfl rfl)
theorem dX4_layCell_42 : decode cX4_layCell 42 = .ok (.if_icmp .ge 46, 3) := dk_162 0 46 (dk_at dksX4_layCell_1 18 rfl rfl)
theorem dX4_layCell_45 : decode cX4_layCell 45 = .ok (.iload 4, 2) := dk_21 4 (dk_at dksX4_layCell_1 21 rfl rfl)
theorem dX4_layCell_47 : decode cX4_layCell 47 = .ok (.iload_n 1, 1) := dk_27 (dk_at dksX4_layCell_1 23 rfl rfl)
theorem dX4_layCell_48 : decode cX4_layCell 48 = .ok (.iconst 1, 1) := dk_4 (dk_at dksX4_layCell_2 0 rfl rfl)
theorem dX4_layCell_49 : decode cX4_layCell 49 = .ok (.iadd, 1) := dk_96 (dk_at dksX4_layCell_2 1 rfl rfl)
theorem dX4_layCell_50 : decode cX4_layCell 50 = .ok (.ishr, 1) := dk_122 (dk_at dksX4_layCell_2 2 rfl rfl)
theorem dX4_layCell_51 : decode cX4_layCell 51 = .ok (.iload_n 1, 1) := dk_27 (dk_at dksX4_layCell_2 3 rfl rfl)
theorem dX4_layCell_52 : decode cX4_layCell 52 = .ok (.iconst 1, 1) := dk_4 (dk_at dksX4_layCell_2 4 rfl rfl)
theorem dX4_layCell_53 : decode cX4_layCell 53 = .ok (.iadd, 1) := dk_96 (dk_at dksX4_layCell_2 5 rfl rfl)
theorem dX4_layCell_54 : decode cX4_layCell 54 = .ok (.ishl, 1) := dk_120 (dk_at dksX4_layCell_2 6 rfl rfl)
theorem dX4_layCell_55 : decode cX4_layCell 55 = .ok (.iload 4, 2) := dk_21 4 (dk_at dksX4_layCell_2 7 rfl rfl)
theorem dX4_layCell_57 : decode cX4_layCell 57 = .ok (.if_icmp .ne 25, 3) := dk_160 0 25 (dk_at dksX4_layCell_2 9 rfl rfl)
theorem dX4_layCell_60 : decode cX4_layCell 60 = .ok (.aload_n 0, 1) := dk_42 (dk_at dksX4_layCell_2 12 rfl rfl)
theorem dX4_layCell_61 : decode cX4_layCell 61 = .ok (.iload 4, 2) := dk_21 4 (dk_at dksX4_layCell_2 13 rfl rfl)
theorem dX4_layCell_63 : decode cX4_layCell 63 = .ok (.iload_n 2, 1) := dk_28 (dk_at dksX4_layCell_2 15 rfl rfl)
theorem dX4_layCell_64 : decode cX4_layCell 64 = .ok (.invokevirtual 133, 3) := dk_182 0 133 (dk_at dksX4_layCell_2 16 rfl rfl)
theorem dX4_layCell_67 : decode cX4_layCell 67 = .ok (.istore 5, 2) := dk_54 5 (dk_at dksX4_layCell_2 19 rfl rfl)
theorem dX4_layCell_69 : decode cX4_layCell 69 = .ok (.iload 5, 2) := dk_21 5 (dk_at dksX4_layCell_2 21 rfl rfl)
theorem dX4_layCell_71 : decode cX4_layCell 71 = .ok (.iload_n 3, 1) := dk_29 (dk_at dksX4_layCell_2 23 rfl rfl)
theorem dX4_layCell_72 : decode cX4_layCell 72 = .ok (.if_icmp .ge 8, 3) := dk_162 0 8 (dk_at dksX4_layCell_3 0 rfl rfl)
theorem dX4_layCell_75 : decode cX4_layCell 75 = .ok (.iload 5, 2) := dk_21 5 (dk_at dksX4_layCell_3 3 rfl rfl)
theorem dX4_layCell_77 : decode cX4_layCell 77 = .ok (.goto 4, 3) := dk_167 0 4 (dk_at dksX4_layCell_3 5 rfl rfl)
theorem dX4_layCell_80 : decode cX4_layCell 80 = .ok (.iload_n 3, 1) := dk_29 (dk_at dksX4_layCell_3 8 rfl rfl)
theorem dX4_layCell_81 : decode cX4_layCell 81 = .ok (.istore_n 3, 1) := dk_62 (dk_at dksX4_layCell_3 9 rfl rfl)
theorem dX4_layCell_82 : decode cX4_layCell 82 = .ok (.iinc 4 1, 3) := dk_132 4 1 (dk_at dksX4_layCell_3 10 rfl rfl)
theorem dX4_layCell_85 : decode cX4_layCell 85 = .ok (.goto (-51), 3) := dk_167 255 205 (dk_at dksX4_layCell_3 13 rfl rfl)
theorem dX4_layCell_88 : decode cX4_layCell 88 = .ok (.aload_n 0, 1) := dk_42 (dk_at dksX4_layCell_3 16 rfl rfl)
theorem dX4_layCell_89 : decode cX4_layCell 89 = .ok (.getfield 20, 3) := dk_180 0 20 (dk_at dksX4_layCell_3 17 rfl rfl)
theorem dX4_layCell_92 : decode cX4_layCell 92 = .ok (.bipush 6, 2) := dk_16 6 (dk_at dksX4_layCell_3 20 rfl rfl)
theorem dX4_layCell_94 : decode cX4_layCell 94 = .ok (.iload_n 1, 1) := dk_27 (dk_at dksX4_layCell_3 22 rfl rfl)
theorem dX4_layCell_95 : decode cX4_layCell 95 = .ok (.imul, 1) := dk_104 (dk_at dksX4_layCell_3 23 rfl rfl)
theorem dX4_layCell_96 : decode cX4_layCell 96 = .ok (.iload_n 2, 1) := dk_28 (dk_at dksX4_layCell_4 0 rfl rfl)
theorem dX4_layCell_97 : decode cX4_layCell 97 = .ok (.iadd, 1) := dk_96 (dk_at dksX4_layCell_4 1 rfl rfl)
theorem dX4_layCell_98 : decode cX4_layCell 98 = .ok (.iaload, 1) := dk_46 (dk_at dksX4_layCell_4 2 rfl rfl)
theorem dX4_layCell_99 : decode cX4_layCell 99 = .ok (.ifCond .le 7, 3) := dk_158 0 7 (dk_at dksX4_layCell_4 3 rfl rfl)
theorem dX4_layCell_102 : decode cX4_layCell 102 = .ok (.iload_n 3, 1) := dk_29 (dk_at dksX4_layCell_4 6 rfl rfl)
theorem dX4_layCell_103 : decode cX4_layCell 103 = .ok (.goto 4, 3) := dk_167 0 4 (dk_at dksX4_layCell_4 7 rfl rfl)
theorem dX4_layCell_106 : decode cX4_layCell 106 = .ok (.iconst 0, 1) := dk_3 (dk_at dksX4_layCell_4 10 rfl rfl)
theorem dX4_layCell_107 : decode cX4_layCell 107 = .ok (.istore 4, 2) := dk_54 4 (dk_at dksX4_layCell_4 11 rfl rfl)
theorem dX4_layCell_109 : decode cX4_layCell 109 = .ok (.aload_n 0, 1) := dk_42 (dk_at dksX4_layCell_4 13 rfl rfl)
theorem dX4_layCell_110 : decode cX4_layCell 110 = .ok (.getfield 33, 3) := dk_180 0 33 (dk_at dksX4_layCell_4 14 rfl rfl)
theorem dX4_layCell_113 : decode cX4_layCell 113 = .ok (.bipush 6, 2) := dk_16 6 (dk_at dksX4_layCell_4 17 rfl rfl)
theorem dX4_layCell_115 : decode cX4_layCell 115 = .ok (.iload_n 1, 1) := dk_27 (dk_at dksX4_layCell_4 19 rfl rfl)
theorem dX4_layCell_116 : decode cX4_layCell 116 = .ok (.imul, 1) := dk_104 (dk_at dksX4_layCell_4 20 rfl rfl)
theorem dX4_layCell_117 : decode cX4_layCell 117 = .ok (.iload_n 2, 1) := dk_28 (dk_at dksX4_layCell_4 21 rfl rfl)
theorem dX4_layCell_118 : decode cX4_layCell 118 = .ok (.iadd, 1) := dk_96 (dk_at dksX4_layCell_4 22 rfl rfl)
theorem dX4_layCell_119 : decode cX4_layCell 119 = .ok (.iload 4, 2) := dk_21 4 (dk_at dksX4_layCell_5 0 rfl rfl)
theorem dX4_layCell_121 : decode cX4_layCell 121 = .ok (.iastore, 1) := dk_79 (dk_at dksX4_layCell_5 2 rfl rfl)
theorem dX4_layCell_122 : decode cX4_layCell 122 = .ok (.aload_n 0, 1) := dk_42 (dk_at dksX4_layCell_5 3 rfl rfl)
theorem dX4_layCell_123 : decode cX4_layCell 123 = .ok (.getfield 36, 3) := dk_180 0 36 (dk_at dksX4_layCell_5 4 rfl rfl)
theorem dX4_layCell_126 : decode cX4_layCell 126 = .ok (.iload_n 1, 1) := dk_27 (dk_at dksX4_layCell_5 7 rfl rfl)
theorem dX4_layCell_127 : decode cX4_layCell 127 = .ok (.dup2, 1) := dk_92 (dk_at dksX4_layCell_5 8 rfl rfl)
theorem dX4_layCell_128 : decode cX4_layCell 128 = .ok (.iaload, 1) := dk_46 (dk_at dksX4_layCell_5 9 rfl rfl)
theorem dX4_layCell_129 : decode cX4_layCell 129 = .ok (.iload 4, 2) := dk_21 4 (dk_at dksX4_layCell_5 10 rfl rfl)
theorem dX4_layCell_131 : decode cX4_layCell 131 = .ok (.isub, 1) := dk_100 (dk_at dksX4_layCell_5 12 rfl rfl)
theorem dX4_layCell_132 : decode cX4_layCell 132 = .ok (.iastore, 1) := dk_79 (dk_at dksX4_layCell_5 13 rfl rfl)
theorem dX4_layCell_133 : decode cX4_layCell 133 = .ok (.aload_n 0, 1) := dk_42 (dk_at dksX4_layCell_5 14 rfl rfl)
theorem dX4_layCell_134 : decode cX4_layCell 134 = .ok (.getfield 39, 3) := dk_180 0 39 (dk_at dksX4_layCell_5 15 rfl rfl)
theorem dX4_layCell_137 : decode cX4_layCell 137 = .ok (.iload_n 2, 1) := dk_28 (dk_at dksX4_layCell_5 18 rfl rfl)
theorem dX4_layCell_138 : decode cX4_layCell 138 = .ok (.dup2, 1) := dk_92 (dk_at dksX4_layCell_5 19 rfl rfl)
theorem dX4_layCell_139 : decode cX4_layCell 139 = .ok (.iaload, 1) := dk_46 (dk_at dksX4_layCell_5 20 rfl rfl)
theorem dX4_layCell_140 : decode cX4_layCell 140 = .ok (.iload 4, 2) := dk_21 4 (dk_at dksX4_layCell_5 21 rfl rfl)
theorem dX4_layCell_142 : decode cX4_layCell 142 = .ok (.isub, 1) := dk_100 (dk_at dksX4_layCell_5 23 rfl rfl)
theorem dX4_layCell_143 : decode cX4_layCell 143 = .ok (.iastore, 1) := dk_79 (dk_at dksX4_layCell_6 0 rfl rfl)
theorem dX4_layCell_144 : decode cX4_layCell 144 = .ok (.return_, 1) := dk_177 (dk_at dksX4_layCell_6 1 rfl rfl)
abbrev cX4_leftBy : ByteArray := prog_11_method_48_code
def yX4_leftBy : MethodName := ⟨RX4, "leftBy", "(II)I"⟩
def dkwX4_leftBy_7 : List UInt8 := [167, 255, 218, 29, 153, 0, 8, 21, 4, 167, 0, 6, 17, 39, 15, 172]
abbrev dktX4_leftBy_7 : List UInt8 := dkwX4_leftBy_7 ++ []
def dkwX4_leftBy_6 : List UInt8 := [4, 126, 4, 160, 0, 13, 42, 180, 0, 36, 21, 5, 46, 167, 0, 4, 3, 100, 54, 4, 132, 5, 1]
abbrev dktX4_leftBy_6 : List UInt8 := dkwX4_leftBy_6 ++ dktX4_leftBy_7
def dkwX4_leftBy_5 : List UInt8 := [132, 5, 1, 167, 255, 143, 3, 54, 5, 21, 5, 42, 180, 0, 7, 162, 0, 35, 21, 4, 27, 21, 5, 122]
abbrev dktX4_leftBy_5 : List UInt8 := dkwX4_leftBy_5 ++ dktX4_leftBy_6
def dkwX4_leftBy_4 : List UInt8 := [96, 54, 4, 29, 154, 0, 14, 21, 6, 153, 0, 13, 21, 5, 28, 160, 0, 7, 4, 167, 0, 4, 3, 62]
abbrev dktX4_leftBy_4 : List UInt8 := dkwX4_leftBy_4 ++ dktX4_leftBy_5
def dkwX4_leftBy_3 : List UInt8 := [132, 7, 1, 167, 255, 206, 21, 4, 21, 6, 153, 0, 13, 42, 180, 0, 39, 21, 5, 46, 167, 0, 4, 3]
abbrev dktX4_leftBy_3 : List UInt8 := dkwX4_leftBy_3 ++ dktX4_leftBy_4
def dkwX4_leftBy_2 : List UInt8 := [42, 180, 0, 20, 16, 6, 21, 7, 104, 21, 5, 96, 46, 158, 0, 7, 4, 167, 0, 4, 3, 54, 6]
abbrev dktX4_leftBy_2 : List UInt8 := dkwX4_leftBy_2 ++ dktX4_leftBy_3
def dkwX4_leftBy_1 : List UInt8 := [21, 7, 42, 180, 0, 7, 162, 0, 47, 21, 6, 154, 0, 29, 27, 21, 7, 122, 4, 126, 4, 160, 0, 23]
abbrev dktX4_leftBy_1 : List UInt8 := dkwX4_leftBy_1 ++ dktX4_leftBy_2
def dkwX4_leftBy_0 : List UInt8 := [3, 62, 3, 54, 4, 3, 54, 5, 21, 5, 42, 180, 0, 7, 162, 0, 110, 3, 54, 6, 3, 54, 7]
abbrev dktX4_leftBy_0 : List UInt8 := dkwX4_leftBy_0 ++ dktX4_leftBy_1
theorem dksX4_leftBy_0 : cX4_leftBy.data.toList.drop 0 = dktX4_leftBy_0 := by decide +kernel
theorem dksX4_leftBy_1 : cX4_leftBy.data.toList.drop 23 = dktX4_leftBy_1 := dk_seg dksX4_leftBy_0 23 rfl rfl
theorem dksX4_leftBy_2 : cX4_leftBy.data.toList.drop 47 = dktX4_leftBy_2 := dk_seg dksX4_leftBy_1 24 rfl rfl
theorem dksX4_leftBy_3 : cX4_leftBy.data.toList.drop 70 = dktX4_leftBy_3 := dk_seg dksX4_leftBy_2 23 rfl rfl
theorem dksX4_leftBy_4 : cX4_leftBy.data.toList.drop 94 = dktX4_leftBy_4 := dk_seg dksX4_leftBy_3 24 rfl rfl
theorem dksX4_leftBy_5 : cX4_leftBy.data.toList.drop 118 = dktX4_leftBy_5 := dk_seg dksX4_leftBy_4 24 rfl rfl
theorem dksX4_leftBy_6 : cX4_leftBy.data.toList.drop 142 = dktX4_leftBy_6 := dk_seg dksX4_leftBy_5 24 rfl rfl
theorem dksX4_leftBy_7 : cX4_leftBy.data.toList.drop 165 = dktX4_leftBy_7 := dk_seg dksX4_leftBy_6 23 rfl rfl
theorem dX4_leftBy_0 : decode cX4_leftBy 0 = .ok (.iconst 0, 1) := dk_3 (dk_at dksX4_leftBy_0 0 rfl rfl)
theorem dX4_leftBy_1 : decode cX4_leftBy 1 = .ok (.istore_n 3, 1) := dk_62 (dk_at dksX4_leftBy_0 1 rfl rfl)
theorem dX4_leftBy_2 : decode cX4_leftBy 2 = .ok (.iconst 0, 1) := dk_3 (dk_at dksX4_leftBy_0 2 rfl rfl)
theorem dX4_leftBy_3 : decode cX4_leftBy 3 = .ok (.istore 4, 2) := dk_54 4 (dk_at dksX4_leftBy_0 3 rfl rfl)
theorem dX4_leftBy_5 : decode cX4_leftBy 5 = .ok (.iconst 0, 1) := dk_3 (dk_at dksX4_leftBy_0 5 rfl rfl)
theorem dX4_leftBy_6 : decode cX4_leftBy 6 = .ok (.istore 5, 2) := dk_54 5 (dk_at dksX4_leftBy_0 6 rfl rfl)
theorem dX4_leftBy_8 : decode cX4_leftBy 8 = .ok (.iload 5, 2) := dk_21 5 (dk_at dksX4_leftBy_0 8 rfl rfl)
theorem dX4_leftBy_10 : decode cX4_leftBy 10 = .ok (.aload_n 0, 1) := dk_42 (dk_at dksX4_leftBy_0 10 rfl rfl)
theorem dX4_leftBy_11 : decode cX4_leftBy 11 = .ok (.getfield 7, 3) := dk_180 0 7 (dk_at dksX4_leftBy_0 11 rfl rfl)
theorem dX4_leftBy_14 : decode cX4_leftBy 14 = .ok (.if_icmp .ge 110, 3) := dk_162 0 110 (dk_at dksX4_leftBy_0 14 rfl rfl)
theorem dX4_leftBy_17 : decode cX4_leftBy 17 = .ok (.iconst 0, 1) := dk_3 (dk_at dksX4_leftBy_0 17 rfl rfl)
theorem dX4_leftBy_18 : decode cX4_leftBy 18 = .ok (.istore 6, 2) := dk_54 6 (dk_at dksX4_leftBy_0 18 rfl rfl)
theorem dX4_leftBy_20 : decode cX4_leftBy 20 = .ok (.iconst 0, 1) := dk_3 (dk_at dksX4_leftBy_0 20 rfl rfl)
theorem dX4_leftBy_21 : decode cX4_leftBy 21 = .ok (.istore 7, 2) := dk_54 7 (dk_at dksX4_leftBy_0 21 rfl rfl)
theorem dX4_leftBy_23 : decode cX4_leftBy 23 = .ok (.iload 7, 2) := dk_21 7 (dk_at dksX4_leftBy_1 0 rfl rfl)
theorem dX4_leftBy_25 : decode cX4_leftBy 25 = .ok (.aload_n 0, 1) := dk_42 (dk_at dksX4_leftBy_1 2 rfl rfl)
theorem dX4_leftBy_26 : decode cX4_leftBy 26 = .ok (.getfield 7, 3) := dk_180 0 7 (dk_at dksX4_leftBy_1 3 rfl rfl)
theorem dX4_leftBy_29 : decode cX4_leftBy 29 = .ok (.if_icmp .ge 47, 3) := dk_162 0 47 (dk_at dksX4_leftBy_1 6 rfl rfl)
theorem dX4_leftBy_32 : decode cX4_leftBy 32 = .ok (.iload 6, 2) := dk_21 6 (dk_at dksX4_leftBy_1 9 rfl rfl)
theorem dX4_leftBy_34 : decode cX4_leftBy 34 = .ok (.ifCond .ne 29, 3) := dk_154 0 29 (dk_at dksX4_leftBy_1 11 rfl rfl)
theorem dX4_leftBy_37 : decode cX4_leftBy 37 = .ok (.iload_n 1, 1) := dk_27 (dk_at dksX4_leftBy_1 14 rfl rfl)
theorem dX4_leftBy_38 : decode cX4_leftBy 38 = .ok (.iload 7, 2) := dk_21 7 (dk_at dksX4_leftBy_1 15 rfl rfl)
theorem dX4_leftBy_40 : decode cX4_leftBy 40 = .ok (.ishr, 1) := dk_122 (dk_at dksX4_leftBy_1 17 rfl rfl)
theorem dX4_leftBy_41 : decode cX4_leftBy 41 = .ok (.iconst 1, 1) := dk_4 (dk_at dksX4_leftBy_1 18 rfl rfl)
theorem dX4_leftBy_42 : decode cX4_leftBy 42 = .ok (.iand, 1) := dk_126 (dk_at dksX4_leftBy_1 19 rfl rfl)
theorem dX4_leftBy_43 : decode cX4_leftBy 43 = .ok (.iconst 1, 1) := dk_4 (dk_at dksX4_leftBy_1 20 rfl rfl)
theorem dX4_leftBy_44 : decode cX4_leftBy 44 = .ok (.if_icmp .ne 23, 3) := dk_160 0 23 (dk_at dksX4_leftBy_1 21 rfl rfl)
theorem dX4_leftBy_47 : decode cX4_leftBy 47 = .ok (.aload_n 0, 1) := dk_42 (dk_at dksX4_leftBy_2 0 rfl rfl)
theorem dX4_leftBy_48 : decode cX4_leftBy 48 = .ok (.getfield 20, 3) := dk_180 0 20 (dk_at dksX4_leftBy_2 1 rfl rfl)
theorem dX4_leftBy_51 : decode cX4_leftBy 51 = .ok (.bipush 6, 2) := dk_16 6 (dk_at dksX4_leftBy_2 4 rfl rfl)
theorem dX4_leftBy_53 : decode cX4_leftBy 53 = .ok (.iload 7, 2) := dk_21 7 (dk_at dksX4_leftBy_2 6 rfl rfl)
theorem dX4_leftBy_55 : decode cX4_leftBy 55 = .ok (.imul, 1) := dk_104 (dk_at dksX4_leftBy_2 8 rfl rfl)
theorem dX4_leftBy_56 : decode cX4_leftBy 56 = .ok (.iload 5, 2) := dk_21 5 (dk_at dksX4_leftBy_2 9 rfl rfl)
theorem dX4_leftBy_58 : decode cX4_leftBy 58 = .ok (.iadd, 1) := dk_96 (dk_at dksX4_leftBy_2 11 rfl rfl)
theorem dX4_leftBy_59 : decode cX4_leftBy 59 = .ok (.iaload, 1) := dk_46 (dk_at dksX4_leftBy_2 12 rfl rfl)
theorem dX4_leftBy_60 : decode cX4_leftBy 60 = .ok (.ifCond .le 7, 3) := dk_158 0 7 (dk_at dksX4_leftBy_2 13 rfl rfl)
theorem dX4_leftBy_63 : decode cX4_leftBy 63 = .ok (.iconst 1, 1) := dk_4 (dk_at dksX4_leftBy_2 16 rfl rfl)
theorem dX4_leftBy_64 : decode cX4_leftBy 64 = .ok (.goto 4, 3) := dk_167 0 4 (dk_at dksX4_leftBy_2 17 rfl rfl)
theorem dX4_leftBy_67 : decode cX4_leftBy 67 = .ok (.iconst 0, 1) := dk_3 (dk_at dksX4_leftBy_2 20 rfl rfl)
theorem dX4_leftBy_68 : decode cX4_leftBy 68 = .ok (.istore 6, 2) := dk_54 6 (dk_at dksX4_leftBy_2 21 rfl rfl)
theorem dX4_leftBy_70 : decode cX4_leftBy 70 = .ok (.iinc 7 1, 3) := dk_132 7 1 (dk_at dksX4_leftBy_3 0 rfl rfl)
theorem dX4_leftBy_73 : decode cX4_leftBy 73 = .ok (.goto (-50), 3) := dk_167 255 206 (dk_at dksX4_leftBy_3 3 rfl rfl)
theorem dX4_leftBy_76 : decode cX4_leftBy 76 = .ok (.iload 4, 2) := dk_21 4 (dk_at dksX4_leftBy_3 6 rfl rfl)
theorem dX4_leftBy_78 : decode cX4_leftBy 78 = .ok (.iload 6, 2) := dk_21 6 (dk_at dksX4_leftBy_3 8 rfl rfl)
theorem dX4_leftBy_80 : decode cX4_leftBy 80 = .ok (.ifCond .eq 13, 3) := dk_153 0 13 (dk_at dksX4_leftBy_3 10 rfl rfl)
theorem dX4_leftBy_83 : decode cX4_leftBy 83 = .ok (.aload_n 0, 1) := dk_42 (dk_at dksX4_leftBy_3 13 rfl rfl)
theorem dX4_leftBy_84 : decode cX4_leftBy 84 = .ok (.getfield 39, 3) := dk_180 0 39 (dk_at dksX4_leftBy_3 14 rfl rfl)
theorem dX4_leftBy_87 : decode cX4_leftBy 87 = .ok (.iload 5, 2) := dk_21 5 (dk_at dksX4_leftBy_3 17 rfl rfl)
theorem dX4_leftBy_89 : decode cX4_leftBy 89 = .ok (.iaload, 1) := dk_46 (dk_at dksX4_leftBy_3 19 rfl rfl)
theorem dX4_leftBy_90 : decode cX4_leftBy 90 = .ok (.goto 4, 3) := dk_167 0 4 (dk_at dksX4_leftBy_3 20 rfl rfl)
theorem dX4_leftBy_93 : decode cX4_leftBy 93 = .ok (.iconst 0, 1) := dk_3 (dk_at dksX4_leftBy_3 23 rfl rfl)
theorem dX4_leftBy_94 : decode cX4_leftBy 94 = .ok (.iadd, 1) := dk_96 (dk_at dksX4_leftBy_4 0 rfl rfl)
theorem dX4_leftBy_95 : decode cX4_leftBy 95 = .ok (.istore 4, 2) := dk_54 4 (dk_at dksX4_leftBy_4 1 rfl rfl)
theorem dX4_leftBy_97 : decode cX4_leftBy 97 = .ok (.iload_n 3, 1) := dk_29 (dk_at dksX4_leftBy_4 3 rfl rfl)
theorem dX4_leftBy_98 : decode cX4_leftBy 98 = .ok (.ifCond .ne 14, 3) := dk_154 0 14 (dk_at dksX4_leftBy_4 4 rfl rfl)
theorem dX4_leftBy_101 : decode cX4_leftBy 101 = .ok (.iload 6, 2) := dk_21 6 (dk_at dksX4_leftBy_4 7 rfl rfl)
theorem dX4_leftBy_103 : decode cX4_leftBy 103 = .ok (.ifCond .eq 13, 3) := dk_153 0 13 (dk_at dksX4_leftBy_4 9 rfl rfl)
theorem dX4_leftBy_106 : decode cX4_leftBy 106 = .ok (.iload 5, 2) := dk_21 5 (dk_at dksX4_leftBy_4 12 rfl rfl)
theorem dX4_leftBy_108 : decode cX4_leftBy 108 = .ok (.iload_n 2, 1) := dk_28 (dk_at dksX4_leftBy_4 14 rfl rfl)
theorem dX4_leftBy_109 : decode cX4_leftBy 109 = .ok (.if_icmp .ne 7, 3) := dk_160 0 7 (dk_at dksX4_leftBy_4 15 rfl rfl)
theorem dX4_leftBy_112 : decode cX4_leftBy 112 = .ok (.iconst 1, 1) := dk_4 (dk_at dksX4_leftBy_4 18 rfl rfl)
theorem dX4_leftBy_113 : decode cX4_leftBy 113 = .ok (.goto 4, 3) := dk_167 0 4 (dk_at dksX4_leftBy_4 19 rfl rfl)
theorem dX4_leftBy_116 : decode cX4_leftBy 116 = .ok (.iconst 0, 1) := dk_3 (dk_at dksX4_leftBy_4 22 rfl rfl)
theorem dX4_leftBy_117 : decode cX4_leftBy 117 = .ok (.istore_n 3, 1) := dk_62 (dk_at dksX4_leftBy_4 23 rfl rfl)
theorem dX4_leftBy_118 : decode cX4_leftBy 118 = .ok (.iinc 5 1, 3) := dk_132 5 1 (dk_at dksX4_leftBy_5 0 rfl rfl)
theorem dX4_leftBy_121 : decode cX4_leftBy 121 = .ok (.goto (-113), 3) := dk_167 255 143 (dk_at dksX4_leftBy_5 3 rfl rfl)
theorem dX4_leftBy_124 : decode cX4_leftBy 124 = .ok (.iconst 0, 1) := dk_3 (dk_at dksX4_leftBy_5 6 rfl rfl)
theorem dX4_leftBy_125 : decode cX4_leftBy 125 = .ok (.istore 5, 2) := dk_54 5 (dk_at dksX4_leftBy_5 7 rfl rfl)
theorem dX4_leftBy_127 : decode cX4_leftBy 127 = .ok (.iload 5, 2) := dk_21 5 (dk_at dksX4_leftBy_5 9 rfl rfl)
theorem dX4_leftBy_129 : decode cX4_leftBy 129 = .ok (.aload_n 0, 1) := dk_42 (dk_at dksX4_leftBy_5 11 rfl rfl)
theorem dX4_leftBy_130 : decode cX4_leftBy 130 = .ok (.getfield 7, 3) := dk_180 0 7 (dk_at dksX4_leftBy_5 12 rfl rfl)
theorem dX4_leftBy_133 : decode cX4_leftBy 133 = .ok (.if_icmp .ge 35, 3) := dk_162 0 35 (dk_at dksX4_leftBy_5 15 rfl rfl)
theorem dX4_leftBy_136 : decode cX4_leftBy 136 = .ok (.iload 4, 2) := dk_21 4 (dk_at dksX4_leftBy_5 18 rfl rfl)
theorem dX4_leftBy_138 : decode cX4_leftBy 138 = .ok (.iload_n 1, 1) := dk_27 (dk_at dksX4_leftBy_5 20 rfl rfl)
theorem dX4_leftBy_139 : decode cX4_leftBy 139 = .ok (.iload 5, 2) := dk_21 5 (dk_at dksX4_leftBy_5 21 rfl rfl)
theorem dX4_leftBy_141 : decode cX4_leftBy 141 = .ok (.ishr, 1) := dk_122 (dk_at dksX4_leftBy_5 23 rfl rfl)
theorem dX4_leftBy_142 : decode cX4_leftBy 142 = .ok (.iconst 1, 1) := dk_4 (dk_at dksX4_leftBy_6 0 rfl rfl)
theorem dX4_leftBy_143 : decode cX4_leftBy 143 = .ok (.iand, 1) := dk_126 (dk_at dksX4_leftBy_6 1 rfl rfl)
theorem dX4_leftBy_144 : decode cX4_leftBy 144 = .ok (.iconst 1, 1) := dk_4 (dk_at dksX4_leftBy_6 2 rfl rfl)
theorem dX4_leftBy_145 : decode cX4_leftBy 145 = .ok (.if_icmp .ne 13, 3) := dk_160 0 13 (dk_at dksX4_leftBy_6 3 rfl rfl)
theorem dX4_leftBy_148 : decode cX4_leftBy 148 = .ok (.aload_n 0, 1) := dk_42 (dk_at dksX4_leftBy_6 6 rfl rfl)
theorem dX4_leftBy_149 : decode cX4_leftBy 149 = .ok (.getfield 36, 3) := dk_180 0 36 (dk_at dksX4_leftBy_6 7 rfl rfl)
theorem dX4_leftBy_152 : decode cX4_leftBy 152 = .ok (.iload 5, 2) := dk_21 5 (dk_at dksX4_leftBy_6 10 rfl rfl)
theorem dX4_leftBy_154 : decode cX4_leftBy 154 = .ok (.iaload, 1) := dk_46 (dk_at dksX4_leftBy_6 12 rfl rfl)
theorem dX4_leftBy_155 : decode cX4_leftBy 155 = .ok (.goto 4, 3) := dk_167 0 4 (dk_at dksX4_leftBy_6 13 rfl rfl)
theorem dX4_leftBy_158 : decode cX4_leftBy 158 = .ok (.iconst 0, 1) := dk_3 (dk_at dksX4_leftBy_6 16 rfl rfl)
theorem dX4_leftBy_159 : decode cX4_leftBy 159 = .ok (.isub, 1) := dk_100 (dk_at dksX4_leftBy_6 17 rfl rfl)
theorem dX4_leftBy_160 : decode cX4_leftBy 160 = .ok (.istore 4, 2) := dk_54 4 (dk_at dksX4_leftBy_6 18 rfl rfl)
theorem dX4_leftBy_162 : decode cX4_leftBy 162 = .ok (.iinc 5 1, 3) := dk_132 5 1 (dk_at dksX4_leftBy_6 20 rfl rfl)
theorem dX4_leftBy_165 : decode cX4_leftBy 165 = .ok (.goto (-38), 3) := dk_167 255 218 (dk_at dksX4_leftBy_7 0 rfl rfl)
theorem dX4_leftBy_168 : decode cX4_leftBy 168 = .ok (.iload_n 3, 1) := dk_29 (dk_at dksX4_leftBy_7 3 rfl rfl)
theorem dX4_leftBy_169 : decode cX4_leftBy 169 = .ok (.ifCond .eq 8, 3) := dk_153 0 8 (dk_at dksX4_leftBy_7 4 rfl rfl)
theorem dX4_leftBy_172 : decode cX4_leftBy 172 = .ok (.iload 4, 2) := dk_21 4 (dk_at dksX4_leftBy_7 7 rfl rfl)
theorem dX4_leftBy_174 : decode cX4_leftBy 174 = .ok (.goto 6, 3) := dk_167 0 6 (dk_at dksX4_leftBy_7 9 rfl rfl)
theorem dX4_leftBy_177 : decode cX4_leftBy 177 = .ok (.sipush 9999, 3) := dk_17 39 15 (dk_at dksX4_leftBy_7 12 rfl rfl)
theorem dX4_leftBy_180 : decode cX4_leftBy 180 = .ok (.ireturn, 1) := dk_172 (dk_at dksX4_leftBy_7 15 rfl rfl)
abbrev cX4_digest : ByteArray := prog_11_method_55_code
def yX4_digest : MethodName := ⟨RX4, "digest", "()J"⟩
def dkwX4_digest_5 : List UInt8 := [182, 0, 152, 42, 180, 0, 148, 173]
abbrev dktX4_digest_5 : List UInt8 := dkwX4_digest_5 ++ []
def dkwX4_digest_4 : List UInt8 := [20, 0, 110, 107, 143, 182, 0, 152, 42, 42, 182, 0, 116, 133, 182, 0, 152, 42, 42, 182, 0, 130, 133]
abbrev dktX4_digest_4 : List UInt8 := dkwX4_digest_4 ++ dktX4_digest_5
def dkwX4_digest_3 : List UInt8 := [42, 42, 182, 0, 77, 133, 182, 0, 152, 42, 42, 180, 0, 52, 133, 182, 0, 152, 42, 42, 182, 0, 106]
abbrev dktX4_digest_3 : List UInt8 := dkwX4_digest_3 ++ dktX4_digest_4
def dkwX4_digest_2 : List UInt8 := [46, 133, 182, 0, 152, 132, 1, 1, 167, 255, 223, 42, 182, 0, 160, 42, 42, 182, 0, 69, 133, 182, 0, 152]
abbrev dktX4_digest_2 : List UInt8 := dkwX4_digest_2 ++ dktX4_digest_3
def dkwX4_digest_1 : List UInt8 := [42, 180, 0, 7, 162, 0, 31, 42, 42, 180, 0, 13, 27, 46, 133, 182, 0, 152, 42, 42, 180, 0, 17, 27]
abbrev dktX4_digest_1 : List UInt8 := dkwX4_digest_1 ++ dktX4_digest_2
def dkwX4_digest_0 : List UInt8 := [42, 3, 181, 0, 45, 42, 20, 0, 158, 181, 0, 148, 42, 42, 180, 0, 7, 133, 182, 0, 152, 3, 60, 27]
abbrev dktX4_digest_0 : List UInt8 := dkwX4_digest_0 ++ dktX4_digest_1
theorem dksX4_digest_0 : cX4_digest.data.toList.drop 0 = dktX4_digest_0 := by decide +kernel
theorem dksX4_digest_1 : cX4_digest.data.toList.drop 24 = dktX4_digest_1 := dk_seg dksX4_digest_0 24 rfl rfl
theorem dksX4_digest_2 : cX4_digest.data.toList.drop 48 = dktX4_digest_2 := dk_seg dksX4_digest_1 24 rfl rfl
theorem dksX4_digest_3 : cX4_digest.data.toList.drop 72 = dktX4_digest_3 := dk_seg dksX4_digest_2 24 rfl rfl
theorem dksX4_digest_4 : cX4_digest.data.toList.drop 95 = dktX4_digest_4 := dk_seg dksX4_digest_3 23 rfl rfl
theorem dksX4_digest_5 : cX4_digest.data.toList.drop 118 = dktX4_digest_5 := dk_seg dksX4_digest_4 23 rfl rfl
theorem dX4_digest_0 : decode cX4_digest 0 = .ok (.aload_n 0, 1) := dk_42 (dk_at dksX4_digest_0 0 rfl rfl)
theorem dX4_digest_1 : decode cX4_digest 1 = .ok (.iconst 0, 1) := dk_3 (dk_at dksX4_digest_0 1 rfl rfl)
theorem dX4_digest_2 : decode cX4_digest 2 = .ok (.putfield 45, 3) := dk_181 0 45 (dk_at dksX4_digest_0 2 rfl rfl)
theorem dX4_digest_5 : decode cX4_digest 5 = .ok (.aload_n 0, 1) := dk_42 (dk_at dksX4_digest_0 5 rfl rfl)
theorem dX4_digest_6 : decode cX4_digest 6 = .ok (.ldc2_w 158, 3) := dk_20 0 158 (dk_at dksX4_digest_0 6 rfl rfl)
theorem dX4_digest_9 : decode cX4_digest 9 = .ok (.putfield 148, 3) := dk_181 0 148 (dk_at dksX4_digest_0 9 rfl rfl)
theorem dX4_digest_12 : decode cX4_digest 12 = .ok (.aload_n 0, 1) := dk_42 (dk_at dksX4_digest_0 12 rfl rfl)
theorem dX4_digest_13 : decode cX4_digest 13 = .ok (.aload_n 0, 1) := dk_42 (dk_at dksX4_digest_0 13 rfl rfl)
theorem dX4_digest_14 : decode cX4_digest 14 = .ok (.getfield 7, 3) := dk_180 0 7 (dk_at dksX4_digest_0 14 rfl rfl)
theorem dX4_digest_17 : decode cX4_digest 17 = .ok (.i2l, 1) := dk_133 (dk_at dksX4_digest_0 17 rfl rfl)
theorem dX4_digest_18 : decode cX4_digest 18 = .ok (.invokevirtual 152, 3) := dk_182 0 152 (dk_at dksX4_digest_0 18 rfl rfl)
theorem dX4_digest_21 : decode cX4_digest 21 = .ok (.iconst 0, 1) := dk_3 (dk_at dksX4_digest_0 21 rfl rfl)
theorem dX4_digest_22 : decode cX4_digest 22 = .ok (.istore_n 1, 1) := dk_60 (dk_at dksX4_digest_0 22 rfl rfl)
theorem dX4_digest_23 : decode cX4_digest 23 = .ok (.iload_n 1, 1) := dk_27 (dk_at dksX4_digest_0 23 rfl rfl)
theorem dX4_digest_24 : decode cX4_digest 24 = .ok (.aload_n 0, 1) := dk_42 (dk_at dksX4_digest_1 0 rfl rfl)
theorem dX4_digest_25 : decode cX4_digest 25 = .ok (.getfield 7, 3) := dk_180 0 7 (dk_at dksX4_digest_1 1 rfl rfl)
theorem dX4_digest_28 : decode cX4_digest 28 = .ok (.if_icmp .ge 31, 3) := dk_162 0 31 (dk_at dksX4_digest_1 4 rfl rfl)
theorem dX4_digest_31 : decode cX4_digest 31 = .ok (.aload_n 0, 1) := dk_42 (dk_at dksX4_digest_1 7 rfl rfl)
theorem dX4_digest_32 : decode cX4_digest 32 = .ok (.aload_n 0, 1) := dk_42 (dk_at dksX4_digest_1 8 rfl rfl)
theorem dX4_digest_33 : decode cX4_digest 33 = .ok (.getfield 13, 3) := dk_180 0 13 (dk_at dksX4_digest_1 9 rfl rfl)
theorem dX4_digest_36 : decode cX4_digest 36 = .ok (.iload_n 1, 1) := dk_27 (dk_at dksX4_digest_1 12 rfl rfl)
theorem dX4_digest_37 : decode cX4_digest 37 = .ok (.iaload, 1) := dk_46 (dk_at dksX4_digest_1 13 rfl rfl)
theorem dX4_digest_38 : decode cX4_digest 38 = .ok (.i2l, 1) := dk_133 (dk_at dksX4_digest_1 14 rfl rfl)
theorem dX4_digest_39 : decode cX4_digest 39 = .ok (.invokevirtual 152, 3) := dk_182 0 152 (dk_at dksX4_digest_1 15 rfl rfl)
theorem dX4_digest_42 : decode cX4_digest 42 = .ok (.aload_n 0, 1) := dk_42 (dk_at dksX4_digest_1 18 rfl rfl)
theorem dX4_digest_43 : decode cX4_digest 43 = .ok (.aload_n 0, 1) := dk_42 (dk_at dksX4_digest_1 19 rfl rfl)
theorem dX4_digest_44 : decode cX4_digest 44 = .ok (.getfield 17, 3) := dk_180 0 17 (dk_at dksX4_digest_1 20 rfl rfl)
theorem dX4_digest_47 : decode cX4_digest 47 = .ok (.iload_n 1, 1) := dk_27 (dk_at dksX4_digest_1 23 rfl rfl)
theorem dX4_digest_48 : decode cX4_digest 48 = .ok (.iaload, 1) := dk_46 (dk_at dksX4_digest_2 0 rfl rfl)
theorem dX4_digest_49 : decode cX4_digest 49 = .ok (.i2l, 1) := dk_133 (dk_at dksX4_digest_2 1 rfl rfl)
theorem dX4_digest_50 : decode cX4_digest 50 = .ok (.invokevirtual 152, 3) := dk_182 0 152 (dk_at dksX4_digest_2 2 rfl rfl)
theorem dX4_digest_53 : decode cX4_digest 53 = .ok (.iinc 1 1, 3) := dk_132 1 1 (dk_at dksX4_digest_2 5 rfl rfl)
theorem dX4_digest_56 : decode cX4_digest 56 = .ok (.goto (-33), 3) := dk_167 255 223 (dk_at dksX4_digest_2 8 rfl rfl)
theorem dX4_digest_59 : decode cX4_digest 59 = .ok (.aload_n 0, 1) := dk_42 (dk_at dksX4_digest_2 11 rfl rfl)
theorem dX4_digest_60 : decode cX4_digest 60 = .ok (.invokevirtual 160, 3) := dk_182 0 160 (dk_at dksX4_digest_2 12 rfl rfl)
theorem dX4_digest_63 : decode cX4_digest 63 = .ok (.aload_n 0, 1) := dk_42 (dk_at dksX4_digest_2 15 rfl rfl)
theorem dX4_digest_64 : decode cX4_digest 64 = .ok (.aload_n 0, 1) := dk_42 (dk_at dksX4_digest_2 16 rfl rfl)
theorem dX4_digest_65 : decode cX4_digest 65 = .ok (.invokevirtual 69, 3) := dk_182 0 69 (dk_at dksX4_digest_2 17 rfl rfl)
theorem dX4_digest_68 : decode cX4_digest 68 = .ok (.i2l, 1) := dk_133 (dk_at dksX4_digest_2 20 rfl rfl)
theorem dX4_digest_69 : decode cX4_digest 69 = .ok (.invokevirtual 152, 3) := dk_182 0 152 (dk_at dksX4_digest_2 21 rfl rfl)
theorem dX4_digest_72 : decode cX4_digest 72 = .ok (.aload_n 0, 1) := dk_42 (dk_at dksX4_digest_3 0 rfl rfl)
theorem dX4_digest_73 : decode cX4_digest 73 = .ok (.aload_n 0, 1) := dk_42 (dk_at dksX4_digest_3 1 rfl rfl)
theorem dX4_digest_74 : decode cX4_digest 74 = .ok (.invokevirtual 77, 3) := dk_182 0 77 (dk_at dksX4_digest_3 2 rfl rfl)
theorem dX4_digest_77 : decode cX4_digest 77 = .ok (.i2l, 1) := dk_133 (dk_at dksX4_digest_3 5 rfl rfl)
theorem dX4_digest_78 : decode cX4_digest 78 = .ok (.invokevirtual 152, 3) := dk_182 0 152 (dk_at dksX4_digest_3 6 rfl rfl)
theorem dX4_digest_81 : decode cX4_digest 81 = .ok (.aload_n 0, 1) := dk_42 (dk_at dksX4_digest_3 9 rfl rfl)
theorem dX4_digest_82 : decode cX4_digest 82 = .ok (.aload_n 0, 1) := dk_42 (dk_at dksX4_digest_3 10 rfl rfl)
theorem dX4_digest_83 : decode cX4_digest 83 = .ok (.getfield 52, 3) := dk_180 0 52 (dk_at dksX4_digest_3 11 rfl rfl)
theorem dX4_digest_86 : decode cX4_digest 86 = .ok (.i2l, 1) := dk_133 (dk_at dksX4_digest_3 14 rfl rfl)
theorem dX4_digest_87 : decode cX4_digest 87 = .ok (.invokevirtual 152, 3) := dk_182 0 152 (dk_at dksX4_digest_3 15 rfl rfl)
theorem dX4_digest_90 : decode cX4_digest 90 = .ok (.aload_n 0, 1) := dk_42 (dk_at dksX4_digest_3 18 rfl rfl)
theorem dX4_digest_91 : decode cX4_digest 91 = .ok (.aload_n 0, 1) := dk_42 (dk_at dksX4_digest_3 19 rfl rfl)
theorem dX4_digest_92 : decode cX4_digest 92 = .ok (.invokevirtual 106, 3) := dk_182 0 106 (dk_at dksX4_digest_3 20 rfl rfl)
theorem dX4_digest_95 : decode cX4_digest 95 = .ok (.ldc2_w 110, 3) := dk_20 0 110 (dk_at dksX4_digest_4 0 rfl rfl)
theorem dX4_digest_98 : decode cX4_digest 98 = .ok (.dmul, 1) := dk_107 (dk_at dksX4_digest_4 3 rfl rfl)
theorem dX4_digest_99 : decode cX4_digest 99 = .ok (.d2l, 1) := dk_143 (dk_at dksX4_digest_4 4 rfl rfl)
theorem dX4_digest_100 : decode cX4_digest 100 = .ok (.invokevirtual 152, 3) := dk_182 0 152 (dk_at dksX4_digest_4 5 rfl rfl)
theorem dX4_digest_103 : decode cX4_digest 103 = .ok (.aload_n 0, 1) := dk_42 (dk_at dksX4_digest_4 8 rfl rfl)
theorem dX4_digest_104 : decode cX4_digest 104 = .ok (.aload_n 0, 1) := dk_42 (dk_at dksX4_digest_4 9 rfl rfl)
theorem dX4_digest_105 : decode cX4_digest 105 = .ok (.invokevirtual 116, 3) := dk_182 0 116 (dk_at dksX4_digest_4 10 rfl rfl)
theorem dX4_digest_108 : decode cX4_digest 108 = .ok (.i2l, 1) := dk_133 (dk_at dksX4_digest_4 13 rfl rfl)
theorem dX4_digest_109 : decode cX4_digest 109 = .ok (.invokevirtual 152, 3) := dk_182 0 152 (dk_at dksX4_digest_4 14 rfl rfl)
theorem dX4_digest_112 : decode cX4_digest 112 = .ok (.aload_n 0, 1) := dk_42 (dk_at dksX4_digest_4 17 rfl rfl)
theorem dX4_digest_113 : decode cX4_digest 113 = .ok (.aload_n 0, 1) := dk_42 (dk_at dksX4_digest_4 18 rfl rfl)
theorem dX4_digest_114 : decode cX4_digest 114 = .ok (.invokevirtual 130, 3) := dk_182 0 130 (dk_at dksX4_digest_4 19 rfl rfl)
theorem dX4_digest_117 : decode cX4_digest 117 = .ok (.i2l, 1) := dk_133 (dk_at dksX4_digest_4 22 rfl rfl)
theorem dX4_digest_118 : decode cX4_digest 118 = .ok (.invokevirtual 152, 3) := dk_182 0 152 (dk_at dksX4_digest_5 0 rfl rfl)
theorem dX4_digest_121 : decode cX4_digest 121 = .ok (.aload_n 0, 1) := dk_42 (dk_at dksX4_digest_5 3 rfl rfl)
theorem dX4_digest_122 : decode cX4_digest 122 = .ok (.getfield 148, 3) := dk_180 0 148 (dk_at dksX4_digest_5 4 rfl rfl)
theorem dX4_digest_125 : decode cX4_digest 125 = .ok (.lreturn, 1) := dk_173 (dk_at dksX4_digest_5 7 rfl rfl)
abbrev cX4_mix : ByteArray := prog_11_method_53_code
def yX4_mix : MethodName := ⟨RX4, "mix", "(J)V"⟩
def dkwX4_mix_0 : List UInt8 := [42, 20, 0, 146, 42, 180, 0, 148, 105, 31, 97, 181, 0, 148, 177]
abbrev dktX4_mix_0 : List UInt8 := dkwX4_mix_0 ++ []
theorem dksX4_mix_0 : cX4_mix.data.toList.drop 0 = dktX4_mix_0 := by decide +kernel
theorem dX4_mix_0 : decode cX4_mix 0 = .ok (.aload_n 0, 1) := dk_42 (dk_at dksX4_mix_0 0 rfl rfl)
theorem dX4_mix_1 : decode cX4_mix 1 = .ok (.ldc2_w 146, 3) := dk_20 0 146 (dk_at dksX4_mix_0 1 rfl rfl)
theorem dX4_mix_4 : decode cX4_mix 4 = .ok (.aload_n 0, 1) := dk_42 (dk_at dksX4_mix_0 4 rfl rfl)
theorem dX4_mix_5 : decode cX4_mix 5 = .ok (.getfield 148, 3) := dk_180 0 148 (dk_at dksX4_mix_0 5 rfl rfl)
theorem dX4_mix_8 : decode cX4_mix 8 = .ok (.lmul, 1) := dk_105 (dk_at dksX4_mix_0 8 rfl rfl)
theorem dX4_mix_9 : decode cX4_mix 9 = .ok (.lload_n 1, 1) := dk_31 (dk_at dksX4_mix_0 9 rfl rfl)
theorem dX4_mix_10 : decode cX4_mix 10 = .ok (.ladd, 1) := dk_97 (dk_at dksX4_mix_0 10 rfl rfl)
theorem dX4_mix_11 : decode cX4_mix 11 = .ok (.putfield 148, 3) := dk_181 0 148 (dk_at dksX4_mix_0 11 rfl rfl)
theorem dX4_mix_14 : decode cX4_mix 14 = .ok (.return_, 1) := dk_177 (dk_at dksX4_mix_0 14 rfl rfl)
abbrev cX4_mixTurns : ByteArray := prog_11_method_54_code
def yX4_mixTurns : MethodName := ⟨RX4, "mixTurns", "()V"⟩
def dkwX4_mixTurns_5 : List UInt8 := [167, 255, 167, 132, 2, 1, 167, 255, 151, 177]
abbrev dktX4_mixTurns_5 : List UInt8 := dkwX4_mixTurns_5 ++ []
def dkwX4_mixTurns_4 : List UInt8 := [42, 180, 0, 33, 16, 6, 28, 104, 29, 96, 46, 133, 167, 0, 6, 20, 0, 156, 182, 0, 152, 132, 3, 1]
abbrev dktX4_mixTurns_4 : List UInt8 := dkwX4_mixTurns_4 ++ dktX4_mixTurns_5
def dkwX4_mixTurns_3 : List UInt8 := [182, 0, 152, 42, 42, 180, 0, 27, 16, 6, 28, 104, 29, 96, 46, 133, 182, 0, 152, 42, 27, 153, 0, 18]
abbrev dktX4_mixTurns_3 : List UInt8 := dkwX4_mixTurns_3 ++ dktX4_mixTurns_4
def dkwX4_mixTurns_2 : List UInt8 := [46, 133, 182, 0, 152, 42, 42, 180, 0, 23, 16, 6, 28, 104, 29, 96, 49, 20, 0, 110, 107, 143]
abbrev dktX4_mixTurns_2 : List UInt8 := dkwX4_mixTurns_2 ++ dktX4_mixTurns_3
def dkwX4_mixTurns_1 : List UInt8 := [162, 0, 103, 3, 62, 29, 42, 180, 0, 7, 162, 0, 87, 42, 42, 180, 0, 20, 16, 6, 28, 104, 29, 96]
abbrev dktX4_mixTurns_1 : List UInt8 := dkwX4_mixTurns_1 ++ dktX4_mixTurns_2
def dkwX4_mixTurns_0 : List UInt8 := [42, 182, 0, 127, 42, 182, 0, 80, 60, 27, 153, 0, 7, 42, 182, 0, 140, 3, 61, 28, 42, 180, 0, 7]
abbrev dktX4_mixTurns_0 : List UInt8 := dkwX4_mixTurns_0 ++ dktX4_mixTurns_1
theorem dksX4_mixTurns_0 : cX4_mixTurns.data.toList.drop 0 = dktX4_mixTurns_0 := by decide +kernel
theorem dksX4_mixTurns_1 : cX4_mixTurns.data.toList.drop 24 = dktX4_mixTurns_1 := dk_seg dksX4_mixTurns_0 24 rfl rfl
theorem dksX4_mixTurns_2 : cX4_mixTurns.data.toList.drop 48 = dktX4_mixTurns_2 := dk_seg dksX4_mixTurns_1 24 rfl rfl
theorem dksX4_mixTurns_3 : cX4_mixTurns.data.toList.drop 70 = dktX4_mixTurns_3 := dk_seg dksX4_mixTurns_2 22 rfl rfl
theorem dksX4_mixTurns_4 : cX4_mixTurns.data.toList.drop 94 = dktX4_mixTurns_4 := dk_seg dksX4_mixTurns_3 24 rfl rfl
theorem dksX4_mixTurns_5 : cX4_mixTurns.data.toList.drop 118 = dktX4_mixTurns_5 := dk_seg dksX4_mixTurns_4 24 rfl rfl
theorem dX4_mixTurns_0 : decode cX4_mixTurns 0 = .ok (.aload_n 0, 1) := dk_42 (dk_at dksX4_mixTurns_0 0 rfl rfl)
theorem dX4_mixTurns_1 : decode cX4_mixTurns 1 = .ok (.invokevirtual 127, 3) := dk_182 0 127 (dk_at dksX4_mixTurns_0 1 rfl rfl)
theorem dX4_mixTurns_4 : decode cX4_mixTurns 4 = .ok (.aload_n 0, 1) := dk_42 (dk_at dksX4_mixTurns_0 4 rfl rfl)
theorem dX4_mixTurns_5 : decode cX4_mixTurns 5 = .ok (.invokevirtual 80, 3) := dk_182 0 80 (dk_at dksX4_mixTurns_0 5 rfl rfl)
theorem dX4_mixTurns_8 : decode cX4_mixTurns 8 = .ok (.istore_n 1, 1) := dk_60 (dk_at dksX4_mixTurns_0 8 rfl rfl)
theorem dX4_mixTurns_9 : decode cX4_mixTurns 9 = .ok (.iload_n 1, 1) := dk_27 (dk_at dksX4_mixTurns_0 9 rfl rfl)
theorem dX4_mixTurns_10 : decode cX4_mixTurns 10 = .ok (.ifCond .eq 7, 3) := dk_153 0 7 (dk_at dksX4_mixTurns_0 10 rfl rfl)
theorem dX4_mixTurns_13 : decode cX4_mixTurns 13 = .ok (.aload_n 0, 1) := dk_42 (dk_at dksX4_mixTurns_0 13 rfl rfl)
theorem dX4_mixTurns_14 : decode cX4_mixTurns 14 = .ok (.invokevirtual 140, 3) := dk_182 0 140 (dk_at dksX4_mixTurns_0 14 rfl rfl)
theorem dX4_mixTurns_17 : decode cX4_mixTurns 17 = .ok (.iconst 0, 1) := dk_3 (dk_at dksX4_mixTurns_0 17 rfl rfl)
theorem dX4_mixTurns_18 : decode cX4_mixTurns 18 = .ok (.istore_n 2, 1) := dk_61 (dk_at dksX4_mixTurns_0 18 rfl rfl)
theorem dX4_mixTurns_19 : decode cX4_mixTurns 19 = .ok (.iload_n 2, 1) := dk_28 (dk_at dksX4_mixTurns_0 19 rfl rfl)
theorem dX4_mixTurns_20 : decode cX4_mixTurns 20 = .ok (.aload_n 0, 1) := dk_42 (dk_at dksX4_mixTurns_0 20 rfl rfl)
theorem dX4_mixTurns_21 : decode cX4_mixTurns 21 = .ok (.getfield 7, 3) := dk_180 0 7 (dk_at dksX4_mixTurns_0 21 rfl rfl)
theorem dX4_mixTurns_24 : decode cX4_mixTurns 24 = .ok (.if_icmp .ge 103, 3) := dk_162 0 103 (dk_at dksX4_mixTurns_1 0 rfl rfl)
theorem dX4_mixTurns_27 : decode cX4_mixTurns 27 = .ok (.iconst 0, 1) := dk_3 (dk_at dksX4_mixTurns_1 3 rfl rfl)
theorem dX4_mixTurns_28 : decode cX4_mixTurns 28 = .ok (.istore_n 3, 1) := dk_62 (dk_at dksX4_mixTurns_1 4 rfl rfl)
theorem dX4_mixTurns_29 : decode cX4_mixTurns 29 = .ok (.iload_n 3, 1) := dk_29 (dk_at dksX4_mixTurns_1 5 rfl rfl)
theorem dX4_mixTurns_30 : decode cX4_mixTurns 30 = .ok (.aload_n 0, 1) := dk_42 (dk_at dksX4_mixTurns_1 6 rfl rfl)
theorem dX4_mixTurns_31 : decode cX4_mixTurns 31 = .ok (.getfield 7, 3) := dk_180 0 7 (dk_at dksX4_mixTurns_1 7 rfl rfl)
theorem dX4_mixTurns_34 : decode cX4_mixTurns 34 = .ok (.if_icmp .ge 87, 3) := dk_162 0 87 (dk_at dksX4_mixTurns_1 10 rfl rfl)
theorem dX4_mixTurns_37 : decode cX4_mixTurns 37 = .ok (.aload_n 0, 1) := dk_42 (dk_at dksX4_mixTurns_1 13 rfl rfl)
theorem dX4_mixTurns_38 : decode cX4_mixTurns 38 = .ok (.aload_n 0, 1) := dk_42 (dk_at dksX4_mixTurns_1 14 rfl rfl)
theorem dX4_mixTurns_39 : decode cX4_mixTurns 39 = .ok (.getfield 20, 3) := dk_180 0 20 (dk_at dksX4_mixTurns_1 15 rfl rfl)
theorem dX4_mixTurns_42 : decode cX4_mixTurns 42 = .ok (.bipush 6, 2) := dk_16 6 (dk_at dksX4_mixTurns_1 18 rfl rfl)
theorem dX4_mixTurns_44 : decode cX4_mixTurns 44 = .ok (.iload_n 2, 1) := dk_28 (dk_at dksX4_mixTurns_1 20 rfl rfl)
theorem dX4_mixTurns_45 : decode cX4_mixTurns 45 = .ok (.imul, 1) := dk_104 (dk_at dksX4_mixTurns_1 21 rfl rfl)
theorem dX4_mixTurns_46 : decode cX4_mixTurns 46 = .ok (.iload_n 3, 1) := dk_29 (dk_at dksX4_mixTurns_1 22 rfl rfl)
theorem dX4_mixTurns_47 : decode cX4_mixTurns 47 = .ok (.iadd, 1) := dk_96 (dk_at dksX4_mixTurns_1 23 rfl rfl)
theorem dX4_mixTurns_48 : decode cX4_mixTurns 48 = .ok (.iaload, 1) := dk_46 (dk_at dksX4_mixTurns_2 0 rfl rfl)
theorem dX4_mixTurns_49 : decode cX4_mixTurns 49 = .ok (.i2l, 1) := dk_133 (dk_at dksX4_mixTurns_2 1 rfl rfl)
theorem dX4_mixTurns_50 : decode cX4_mixTurns 50 = .ok (.invokevirtual 152, 3) := dk_182 0 152 (dk_at dksX4_mixTurns_2 2 rfl rfl)
theorem dX4_mixTurns_53 : decode cX4_mixTurns 53 = .ok (.aload_n 0, 1) := dk_42 (dk_at dksX4_mixTurns_2 5 rfl rfl)
theorem dX4_mixTurns_54 : decode cX4_mixTurns 54 = .ok (.aload_n 0, 1) := dk_42 (dk_at dksX4_mixTurns_2 6 rfl rfl)
theorem dX4_mixTurns_55 : decode cX4_mixTurns 55 = .ok (.getfield 23, 3) := dk_180 0 23 (dk_at dksX4_mixTurns_2 7 rfl rfl)
theorem dX4_mixTurns_58 : decode cX4_mixTurns 58 = .ok (.bipush 6, 2) := dk_16 6 (dk_at dksX4_mixTurns_2 10 rfl rfl)
theorem dX4_mixTurns_60 : decode cX4_mixTurns 60 = .ok (.iload_n 2, 1) := dk_28 (dk_at dksX4_mixTurns_2 12 rfl rfl)
theorem dX4_mixTurns_61 : decode cX4_mixTurns 61 = .ok (.imul, 1) := dk_104 (dk_at dksX4_mixTurns_2 13 rfl rfl)
theorem dX4_mixTurns_62 : decode cX4_mixTurns 62 = .ok (.iload_n 3, 1) := dk_29 (dk_at dksX4_mixTurns_2 14 rfl rfl)
theorem dX4_mixTurns_63 : decode cX4_mixTurns 63 = .ok (.iadd, 1) := dk_96 (dk_at dksX4_mixTurns_2 15 rfl rfl)
theorem dX4_mixTurns_64 : decode cX4_mixTurns 64 = .ok (.daload, 1) := dk_49 (dk_at dksX4_mixTurns_2 16 rfl rfl)
theorem dX4_mixTurns_65 : decode cX4_mixTurns 65 = .ok (.ldc2_w 110, 3) := dk_20 0 110 (dk_at dksX4_mixTurns_2 17 rfl rfl)
theorem dX4_mixTurns_68 : decode cX4_mixTurns 68 = .ok (.dmul, 1) := dk_107 (dk_at dksX4_mixTurns_2 20 rfl rfl)
theorem dX4_mixTurns_69 : decode cX4_mixTurns 69 = .ok (.d2l, 1) := dk_143 (dk_at dksX4_mixTurns_2 21 rfl rfl)
theorem dX4_mixTurns_70 : decode cX4_mixTurns 70 = .ok (.invokevirtual 152, 3) := dk_182 0 152 (dk_at dksX4_mixTurns_3 0 rfl rfl)
theorem dX4_mixTurns_73 : decode cX4_mixTurns 73 = .ok (.aload_n 0, 1) := dk_42 (dk_at dksX4_mixTurns_3 3 rfl rfl)
theorem dX4_mixTurns_74 : decode cX4_mixTurns 74 = .ok (.aload_n 0, 1) := dk_42 (dk_at dksX4_mixTurns_3 4 rfl rfl)
theorem dX4_mixTurns_75 : decode cX4_mixTurns 75 = .ok (.getfield 27, 3) := dk_180 0 27 (dk_at dksX4_mixTurns_3 5 rfl rfl)
theorem dX4_mixTurns_78 : decode cX4_mixTurns 78 = .ok (.bipush 6, 2) := dk_16 6 (dk_at dksX4_mixTurns_3 8 rfl rfl)
theorem dX4_mixTurns_80 : decode cX4_mixTurns 80 = .ok (.iload_n 2, 1) := dk_28 (dk_at dksX4_mixTurns_3 10 rfl rfl)
theorem dX4_mixTurns_81 : decode cX4_mixTurns 81 = .ok (.imul, 1) := dk_104 (dk_at dksX4_mixTurns_3 11 rfl rfl)
theorem dX4_mixTurns_82 : decode cX4_mixTurns 82 = .ok (.iload_n 3, 1) := dk_29 (dk_at dksX4_mixTurns_3 12 rfl rfl)
theorem dX4_mixTurns_83 : decode cX4_mixTurns 83 = .ok (.iadd, 1) := dk_96 (dk_at dksX4_mixTurns_3 13 rfl rfl)
theorem dX4_mixTurns_84 : decode cX4_mixTurns 84 = .ok (.iaload, 1) := dk_46 (dk_at dksX4_mixTurns_3 14 rfl rfl)
theorem dX4_mixTurns_85 : decode cX4_mixTurns 85 = .ok (.i2l, 1) := dk_133 (dk_at dksX4_mixTurns_3 15 rfl rfl)
theorem dX4_mixTurns_86 : decode cX4_mixTurns 86 = .ok (.invokevirtual 152, 3) := dk_182 0 152 (dk_at dksX4_mixTurns_3 16 rfl rfl)
theorem dX4_mixTurns_89 : decode cX4_mixTurns 89 = .ok (.aload_n 0, 1) := dk_42 (dk_at dksX4_mixTurns_3 19 rfl rfl)
theorem dX4_mixTurns_90 : decode cX4_mixTurns 90 = .ok (.iload_n 1, 1) := dk_27 (dk_at dksX4_mixTurns_3 20 rfl rfl)
theorem dX4_mixTurns_91 : decode cX4_mixTurns 91 = .ok (.ifCond .eq 18, 3) := dk_153 0 18 (dk_at dksX4_mixTurns_3 21 rfl rfl)
theorem dX4_mixTurns_94 : decode cX4_mixTurns 94 = .ok (.aload_n 0, 1) := dk_42 (dk_at dksX4_mixTurns_4 0 rfl rfl)
theorem dX4_mixTurns_95 : decode cX4_mixTurns 95 = .ok (.getfield 33, 3) := dk_180 0 33 (dk_at dksX4_mixTurns_4 1 rfl rfl)
theorem dX4_mixTurns_98 : decode cX4_mixTurns 98 = .ok (.bipush 6, 2) := dk_16 6 (dk_at dksX4_mixTurns_4 4 rfl rfl)
theorem dX4_mixTurns_100 : decode cX4_mixTurns 100 = .ok (.iload_n 2, 1) := dk_28 (dk_at dksX4_mixTurns_4 6 rfl rfl)
theorem dX4_mixTurns_101 : decode cX4_mixTurns 101 = .ok (.imul, 1) := dk_104 (dk_at dksX4_mixTurns_4 7 rfl rfl)
theorem dX4_mixTurns_102 : decode cX4_mixTurns 102 = .ok (.iload_n 3, 1) := dk_29 (dk_at dksX4_mixTurns_4 8 rfl rfl)
theorem dX4_mixTurns_103 : decode cX4_mixTurns 103 = .ok (.iadd, 1) := dk_96 (dk_at dksX4_mixTurns_4 9 rfl rfl)
theorem dX4_mixTurns_104 : decode cX4_mixTurns 104 = .ok (.iaload, 1) := dk_46 (dk_at dksX4_mixTurns_4 10 rfl rfl)
theorem dX4_mixTurns_105 : decode cX4_mixTurns 105 = .ok (.i2l, 1) := dk_133 (dk_at dksX4_mixTurns_4 11 rfl rfl)
theorem dX4_mixTurns_106 : decode cX4_mixTurns 106 = .ok (.goto 6, 3) := dk_167 0 6 (dk_at dksX4_mixTurns_4 12 rfl rfl)
theorem dX4_mixTurns_109 : decode cX4_mixTurns 109 = .ok (.ldc2_w 156, 3) := dk_20 0 156 (dk_at dksX4_mixTurns_4 15 rfl rfl)
theorem dX4_mixTurns_112 : decode cX4_mixTurns 112 = .ok (.invokevirtual 152, 3) := dk_182 0 152 (dk_at dksX4_mixTurns_4 18 rfl rfl)
theorem dX4_mixTurns_115 : decode cX4_mixTurns 115 = .ok (.iinc 3 1, 3) := dk_132 3 1 (dk_at dksX4_mixTurns_4 21 rfl rfl)
theorem dX4_mixTurns_118 : decode cX4_mixTurns 118 = .ok (.goto (-89), 3) := dk_167 255 167 (dk_at dksX4_mixTurns_5 0 rfl rfl)
theorem dX4_mixTurns_121 : decode cX4_mixTurns 121 = .ok (.iinc 2 1, 3) := dk_132 2 1 (dk_at dksX4_mixTurns_5 3 rfl rfl)
theorem dX4_mixTurns_124 : decode cX4_mixTurns 124 = .ok (.goto (-105), 3) := dk_167 255 151 (dk_at dksX4_mixTurns_5 6 rfl rfl)
theorem dX4_mixTurns_127 : decode cX4_mixTurns 127 = .ok (.return_, 1) := dk_177 (dk_at dksX4_mixTurns_5 9 rfl rfl)
theorem q53 : (Jvm.Cond.initialized "TurnEstimatorModel") ∈ lw_all := lw_g (lw_at lw_m1 4 rfl) rfl
theorem q650 : (Jvm.Cond.instantiable "TurnEstimatorModel" (13 : Nat)) ∈ lw_all := lw_g (lw_at lw_m3 121 rfl) rfl
theorem q652 : (Jvm.Cond.instanceMethod ({ cls := "TurnEstimatorModel", name := "<init>", desc := "()V" } : Jvm.MethodName)) ∈ lw_all := lw_g (lw_at lw_m3 123 rfl) rfl
theorem q653 : (Jvm.Cond.code ({ cls := "TurnEstimatorModel", name := "<init>", desc := "()V" } : Jvm.MethodName) prog_11_method_1_code (1 : Nat) (Option.none : Option Jvm.ClassFile.FieldType)) ∈ lw_all := lw_g (lw_at lw_m3 124 rfl) rfl
theorem q654 : (Jvm.Cond.methodLink "TurnEstimatorModel" (1 : Nat) ({ cls := "java/lang/Object", name := "<init>", desc := "()V" } : Jvm.MethodName)) ∈ lw_all := lw_g (lw_at lw_m3 125 rfl) rfl
theorem q655 : (Jvm.Cond.methodLink "TurnEstimatorModel" (42 : Nat) ({ cls := "TurnEstimatorModel", name := "begin", desc := "()V" } : Jvm.MethodName)) ∈ lw_all := lw_g (lw_at lw_m3 126 rfl) rfl
theorem q656 : (Jvm.Cond.privateMethod ({ cls := "TurnEstimatorModel", name := "begin", desc := "()V" } : Jvm.MethodName)) ∈ lw_tbl := lw_at lw_m3 127 rfl
theorem q657 : (Jvm.Cond.instanceMethod ({ cls := "TurnEstimatorModel", name := "begin", desc := "()V" } : Jvm.MethodName)) ∈ lw_all := lw_g (lw_at lw_m3 128 rfl) rfl
theorem q658 : (Jvm.Cond.code ({ cls := "TurnEstimatorModel", name := "begin", desc := "()V" } : Jvm.MethodName) prog_11_method_6_code (2 : Nat) (Option.none : Option Jvm.ClassFile.FieldType)) ∈ lw_all := lw_g (lw_at lw_m3 129 rfl) rfl
theorem q659 : (Jvm.Cond.methodLink "TurnEstimatorModel" (55 : Nat) ({ cls := "TurnEstimatorModel", name := "layWeights", desc := "()V" } : Jvm.MethodName)) ∈ lw_all := lw_g (lw_at lw_m3 130 rfl) rfl
theorem q660 : (Jvm.Cond.privateMethod ({ cls := "TurnEstimatorModel", name := "layWeights", desc := "()V" } : Jvm.MethodName)) ∈ lw_tbl := lw_at lw_m3 131 rfl
theorem q661 : (Jvm.Cond.instanceMethod ({ cls := "TurnEstimatorModel", name := "layWeights", desc := "()V" } : Jvm.MethodName)) ∈ lw_all := lw_g (lw_at lw_m3 132 rfl) rfl
theorem q662 : (Jvm.Cond.code ({ cls := "TurnEstimatorModel", name := "layWeights", desc := "()V" } : Jvm.MethodName) prog_11_method_5_code (2 : Nat) (Option.none : Option Jvm.ClassFile.FieldType)) ∈ lw_all := lw_g (lw_at lw_m3 133 rfl) rfl
theorem q663 : (Jvm.Cond.fieldLink "TurnEstimatorModel" (45 : Nat) "TurnEstimatorModel" "thrown" "I") ∈ lw_all := lw_g (lw_at lw_m3 134 rfl) rfl
theorem q664 : (Jvm.Cond.fieldLink "TurnEstimatorModel" (7 : Nat) "TurnEstimatorModel" "arms" "I") ∈ lw_all := lw_g (lw_at lw_m3 135 rfl) rfl
theorem q665 : (Jvm.Cond.fieldLink "TurnEstimatorModel" (13 : Nat) "TurnEstimatorModel" "inflow" "[I") ∈ lw_all := lw_g (lw_at lw_m3 136 rfl) rfl
theorem q666 : (Jvm.Cond.fieldLink "TurnEstimatorModel" (17 : Nat) "TurnEstimatorModel" "outflow" "[I") ∈ lw_all := lw_g (lw_at lw_m3 137 rfl) rfl
theorem q667 : (Jvm.Cond.fieldLink "TurnEstimatorModel" (20 : Nat) "TurnEstimatorModel" "weights" "[I") ∈ lw_all := lw_g (lw_at lw_m3 138 rfl) rfl
theorem q668 : (Jvm.Cond.fieldLink "TurnEstimatorModel" (23 : Nat) "TurnEstimatorModel" "estimates" "[D") ∈ lw_all := lw_g (lw_at lw_m3 139 rfl) rfl
theorem q669 : (Jvm.Cond.fieldLink "TurnEstimatorModel" (52 : Nat) "TurnEstimatorModel" "roundsDone" "I") ∈ lw_all := lw_g (lw_at lw_m3 140 rfl) rfl
theorem q670 : (Jvm.Cond.fieldLink "TurnEstimatorModel" (27 : Nat) "TurnEstimatorModel" "whole" "[I") ∈ lw_all := lw_g (lw_at lw_m3 141 rfl) rfl
theorem q671 : (Jvm.Cond.fieldLink "TurnEstimatorModel" (30 : Nat) "TurnEstimatorModel" "fraction" "[D") ∈ lw_all := lw_g (lw_at lw_m3 142 rfl) rfl
theorem q672 : (Jvm.Cond.fieldLink "TurnEstimatorModel" (33 : Nat) "TurnEstimatorModel" "table" "[I") ∈ lw_all := lw_g (lw_at lw_m3 143 rfl) rfl
theorem q673 : (Jvm.Cond.fieldLink "TurnEstimatorModel" (36 : Nat) "TurnEstimatorModel" "rowLeft" "[I") ∈ lw_all := lw_g (lw_at lw_m3 144 rfl) rfl
theorem q674 : (Jvm.Cond.fieldLink "TurnEstimatorModel" (39 : Nat) "TurnEstimatorModel" "columnLeft" "[I") ∈ lw_all := lw_g (lw_at lw_m3 145 rfl) rfl
theorem q675 : (Jvm.Cond.fieldLink "TurnEstimatorModel" (148 : Nat) "TurnEstimatorModel" "h" "J") ∈ lw_all := lw_g (lw_at lw_m3 146 rfl) rfl
theorem q676 : (Jvm.Cond.lays "TurnEstimatorModel" "TurnEstimatorModel" "thrown" "I") ∈ lw_all := lw_g (lw_at lw_m3 147 rfl) rfl
theorem q677 : (Jvm.Cond.soleField "TurnEstimatorModel" "thrown") ∈ lw_all := lw_g (lw_at lw_m3 148 rfl) rfl
theorem q678 : (Jvm.Cond.lays "TurnEstimatorModel" "TurnEstimatorModel" "arms" "I") ∈ lw_all := lw_g (lw_at lw_m3 149 rfl) rfl
theorem q679 : (Jvm.Cond.soleField "TurnEstimatorModel" "arms") ∈ lw_all := lw_g (lw_at lw_m3 150 rfl) rfl
theorem q680 : (Jvm.Cond.laysFinal "TurnEstimatorModel" "TurnEstimatorModel" "inflow" "[I") ∈ lw_all := lw_g (lw_at lw_m3 151 rfl) rfl
theorem q681 : (Jvm.Cond.soleField "TurnEstimatorModel" "inflow") ∈ lw_all := lw_g (lw_at lw_m3 152 rfl) rfl
theorem q682 : (Jvm.Cond.laysFinal "TurnEstimatorModel" "TurnEstimatorModel" "outflow" "[I") ∈ lw_all := lw_g (lw_at lw_m3 153 rfl) rfl
theorem q683 : (Jvm.Cond.soleField "TurnEstimatorModel" "outflow") ∈ lw_all := lw_g (lw_at lw_m3 154 rfl) rfl
theorem q684 : (Jvm.Cond.laysFinal "TurnEstimatorModel" "TurnEstimatorModel" "weights" "[I") ∈ lw_all := lw_g (lw_at lw_m3 155 rfl) rfl
theorem q685 : (Jvm.Cond.soleField "TurnEstimatorModel" "weights") ∈ lw_all := lw_g (lw_at lw_m3 156 rfl) rfl
theorem q686 : (Jvm.Cond.laysFinal "TurnEstimatorModel" "TurnEstimatorModel" "estimates" "[D") ∈ lw_all := lw_g (lw_at lw_m3 157 rfl) rfl
theorem q687 : (Jvm.Cond.soleField "TurnEstimatorModel" "estimates") ∈ lw_all := lw_g (lw_at lw_m3 158 rfl) rfl
theorem q688 : (Jvm.Cond.lays "TurnEstimatorModel" "TurnEstimatorModel" "roundsDone" "I") ∈ lw_all := lw_g (lw_at lw_m3 159 rfl) rfl
theorem q689 : (Jvm.Cond.soleField "TurnEstimatorModel" "roundsDone") ∈ lw_all := lw_g (lw_at lw_m3 160 rfl) rfl
theorem q690 : (Jvm.Cond.laysFinal "TurnEstimatorModel" "TurnEstimatorModel" "whole" "[I") ∈ lw_all := lw_g (lw_at lw_m3 161 rfl) rfl
theorem q691 : (Jvm.Cond.soleField "TurnEstimatorModel" "whole") ∈ lw_all := lw_g (lw_at lw_m3 162 rfl) rfl
theorem q692 : (Jvm.Cond.laysFinal "TurnEstimatorModel" "TurnEstimatorModel" "fraction" "[D") ∈ lw_all := lw_g (lw_at lw_m3 163 rfl) rfl
theorem q693 : (Jvm.Cond.soleField "TurnEstimatorModel" "fraction") ∈ lw_all := lw_g (lw_at lw_m3 164 rfl) rfl
theorem q694 : (Jvm.Cond.laysFinal "TurnEstimatorModel" "TurnEstimatorModel" "table" "[I") ∈ lw_all := lw_g (lw_at lw_m3 165 rfl) rfl
theorem q695 : (Jvm.Cond.soleField "TurnEstimatorModel" "table") ∈ lw_all := lw_g (lw_at lw_m3 166 rfl) rfl
theorem q696 : (Jvm.Cond.laysFinal "TurnEstimatorModel" "TurnEstimatorModel" "rowLeft" "[I") ∈ lw_all := lw_g (lw_at lw_m3 167 rfl) rfl
theorem q697 : (Jvm.Cond.soleField "TurnEstimatorModel" "rowLeft") ∈ lw_all := lw_g (lw_at lw_m3 168 rfl) rfl
theorem q698 : (Jvm.Cond.laysFinal "TurnEstimatorModel" "TurnEstimatorModel" "columnLeft" "[I") ∈ lw_all := lw_g (lw_at lw_m3 169 rfl) rfl
theorem q699 : (Jvm.Cond.soleField "TurnEstimatorModel" "columnLeft") ∈ lw_all := lw_g (lw_at lw_m3 170 rfl) rfl
theorem q700 : (Jvm.Cond.lays "TurnEstimatorModel" "TurnEstimatorModel" "h" "J") ∈ lw_all := lw_g (lw_at lw_m3 171 rfl) rfl
theorem q701 : (Jvm.Cond.soleField "TurnEstimatorModel" "h") ∈ lw_all := lw_g (lw_at lw_m3 172 rfl) rfl
theorem q702 : (Jvm.Cond.superclass "TurnEstimatorModel" "java/lang/Object") ∈ lw_all := lw_g (lw_at lw_m3 173 rfl) rfl
theorem q704 : (Jvm.Cond.instanceMethod ({ cls := "TurnEstimatorModel", name := "thrown", desc := "()I" } : Jvm.MethodName)) ∈ lw_all := lw_g (lw_at lw_m3 175 rfl) rfl
theorem q705 : (Jvm.Cond.selects "TurnEstimatorModel" ({ cls := "TurnEstimatorModel", name := "thrown", desc := "()I" } : Jvm.MethodName) ({ cls := "TurnEstimatorModel", name := "thrown", desc := "()I" } : Jvm.MethodName)) ∈ lw_all := lw_g (lw_at lw_m3 176 rfl) rfl
theorem q706 : (Jvm.Cond.code ({ cls := "TurnEstimatorModel", name := "thrown", desc := "()I" } : Jvm.MethodName) prog_11_method_2_code (1 : Nat) (Option.some Jvm.ClassFile.FieldType.int)) ∈ lw_all := lw_g (lw_at lw_m3 177 rfl) rfl
theorem q708 : (Jvm.Cond.instanceMethod ({ cls := "TurnEstimatorModel", name := "setArms", desc := "(I)I" } : Jvm.MethodName)) ∈ lw_all := lw_g (lw_at lw_m3 179 rfl) rfl
theorem q709 : (Jvm.Cond.selects "TurnEstimatorModel" ({ cls := "TurnEstimatorModel", name := "setArms", desc := "(I)I" } : Jvm.MethodName) ({ cls := "TurnEstimatorModel", name := "setArms", desc := "(I)I" } : Jvm.MethodName)) ∈ lw_all := lw_g (lw_at lw_m3 180 rfl) rfl
theorem q710 : (Jvm.Cond.code ({ cls := "TurnEstimatorModel", name := "setArms", desc := "(I)I" } : Jvm.MethodName) prog_11_method_7_code (3 : Nat) (Option.some Jvm.ClassFile.FieldType.int)) ∈ lw_all := lw_g (lw_at lw_m3 181 rfl) rfl
theorem q711 : (Jvm.Cond.methodLink "TurnEstimatorModel" (48 : Nat) ({ cls := "TurnEstimatorModel", name := "within", desc := "(III)Z" } : Jvm.MethodName)) ∈ lw_all := lw_g (lw_at lw_m3 182 rfl) rfl
theorem q712 : (Jvm.Cond.static ({ cls := "TurnEstimatorModel", name := "within", desc := "(III)Z" } : Jvm.MethodName)) ∈ lw_all := lw_g (lw_at lw_m3 183 rfl) rfl
theorem q713 : (Jvm.Cond.code ({ cls := "TurnEstimatorModel", name := "within", desc := "(III)Z" } : Jvm.MethodName) prog_11_method_3_code (3 : Nat) (Option.some Jvm.ClassFile.FieldType.boolean)) ∈ lw_all := lw_g (lw_at lw_m3 184 rfl) rfl
theorem q715 : (Jvm.Cond.instanceMethod ({ cls := "TurnEstimatorModel", name := "arms", desc := "()I" } : Jvm.MethodName)) ∈ lw_all := lw_g (lw_at lw_m3 186 rfl) rfl
theorem q716 : (Jvm.Cond.selects "TurnEstimatorModel" ({ cls := "TurnEstimatorModel", name := "arms", desc := "()I" } : Jvm.MethodName) ({ cls := "TurnEstimatorModel", name := "arms", desc := "()I" } : Jvm.MethodName)) ∈ lw_all := lw_g (lw_at lw_m3 187 rfl) rfl
theorem q717 : (Jvm.Cond.code ({ cls := "TurnEstimatorModel", name := "arms", desc := "()I" } : Jvm.MethodName) prog_11_method_8_code (1 : Nat) (Option.some Jvm.ClassFile.FieldType.int)) ∈ lw_all := lw_g (lw_at lw_m3 188 rfl) rfl
theorem q719 : (Jvm.Cond.instanceMethod ({ cls := "TurnEstimatorModel", name := "setInflow", desc := "(II)I" } : Jvm.MethodName)) ∈ lw_all := lw_g (lw_at lw_m3 190 rfl) rfl
theorem q720 : (Jvm.Cond.selects "TurnEstimatorModel" ({ cls := "TurnEstimatorModel", name := "setInflow", desc := "(II)I" } : Jvm.MethodName) ({ cls := "TurnEstimatorModel", name := "setInflow", desc := "(II)I" } : Jvm.MethodName)) ∈ lw_all := lw_g (lw_at lw_m3 191 rfl) rfl
theorem q721 : (Jvm.Cond.code ({ cls := "TurnEstimatorModel", name := "setInflow", desc := "(II)I" } : Jvm.MethodName) prog_11_method_9_code (4 : Nat) (Option.some Jvm.ClassFile.FieldType.int)) ∈ lw_all := lw_g (lw_at lw_m3 192 rfl) rfl
theorem q722 : (Jvm.Cond.methodLink "TurnEstimatorModel" (58 : Nat) ({ cls := "TurnEstimatorModel", name := "isArm", desc := "(I)Z" } : Jvm.MethodName)) ∈ lw_all := lw_g (lw_at lw_m3 193 rfl) rfl
theorem q723 : (Jvm.Cond.privateMethod ({ cls := "TurnEstimatorModel", name := "isArm", desc := "(I)Z" } : Jvm.MethodName)) ∈ lw_tbl := lw_at lw_m3 194 rfl
theorem q724 : (Jvm.Cond.instanceMethod ({ cls := "TurnEstimatorModel", name := "isArm", desc := "(I)Z" } : Jvm.MethodName)) ∈ lw_all := lw_g (lw_at lw_m3 195 rfl) rfl
theorem q725 : (Jvm.Cond.code ({ cls := "TurnEstimatorModel", name := "isArm", desc := "(I)Z" } : Jvm.MethodName) prog_11_method_4_code (2 : Nat) (Option.some Jvm.ClassFile.FieldType.boolean)) ∈ lw_all := lw_g (lw_at lw_m3 196 rfl) rfl
theorem q727 : (Jvm.Cond.instanceMethod ({ cls := "TurnEstimatorModel", name := "setOutflow", desc := "(II)I" } : Jvm.MethodName)) ∈ lw_all := lw_g (lw_at lw_m3 198 rfl) rfl
theorem q728 : (Jvm.Cond.selects "TurnEstimatorModel" ({ cls := "TurnEstimatorModel", name := "setOutflow", desc := "(II)I" } : Jvm.MethodName) ({ cls := "TurnEstimatorModel", name := "setOutflow", desc := "(II)I" } : Jvm.MethodName)) ∈ lw_all := lw_g (lw_at lw_m3 199 rfl) rfl
theorem q729 : (Jvm.Cond.code ({ cls := "TurnEstimatorModel", name := "setOutflow", desc := "(II)I" } : Jvm.MethodName) prog_11_method_10_code (4 : Nat) (Option.some Jvm.ClassFile.FieldType.int)) ∈ lw_all := lw_g (lw_at lw_m3 200 rfl) rfl
theorem q731 : (Jvm.Cond.instanceMethod ({ cls := "TurnEstimatorModel", name := "setWeight", desc := "(III)I" } : Jvm.MethodName)) ∈ lw_all := lw_g (lw_at lw_m3 202 rfl) rfl
theorem q732 : (Jvm.Cond.selects "TurnEstimatorModel" ({ cls := "TurnEstimatorModel", name := "setWeight", desc := "(III)I" } : Jvm.MethodName) ({ cls := "TurnEstimatorModel", name := "setWeight", desc := "(III)I" } : Jvm.MethodName)) ∈ lw_all := lw_g (lw_at lw_m3 203 rfl) rfl
theorem q733 : (Jvm.Cond.code ({ cls := "TurnEstimatorModel", name := "setWeight", desc := "(III)I" } : Jvm.MethodName) prog_11_method_11_code (5 : Nat) (Option.some Jvm.ClassFile.FieldType.int)) ∈ lw_all := lw_g (lw_at lw_m3 204 rfl) rfl
theorem q735 : (Jvm.Cond.instanceMethod ({ cls := "TurnEstimatorModel", name := "scale", desc := "(I)I" } : Jvm.MethodName)) ∈ lw_all := lw_g (lw_at lw_m3 206 rfl) rfl
theorem q736 : (Jvm.Cond.selects "TurnEstimatorModel" ({ cls := "TurnEstimatorModel", name := "scale", desc := "(I)I" } : Jvm.MethodName) ({ cls := "TurnEstimatorModel", name := "scale", desc := "(I)I" } : Jvm.MethodName)) ∈ lw_all := lw_g (lw_at lw_m3 207 rfl) rfl
theorem q737 : (Jvm.Cond.code ({ cls := "TurnEstimatorModel", name := "scale", desc := "(I)I" } : Jvm.MethodName) prog_11_method_14_code (4 : Nat) (Option.some Jvm.ClassFile.FieldType.int)) ∈ lw_all := lw_g (lw_at lw_m3 208 rfl) rfl
theorem q738 : (Jvm.Cond.methodLink "TurnEstimatorModel" (66 : Nat) ({ cls := "TurnEstimatorModel", name := "isScalable", desc := "(I)Z" } : Jvm.MethodName)) ∈ lw_all := lw_g (lw_at lw_m3 209 rfl) rfl
theorem q739 : (Jvm.Cond.privateMethod ({ cls := "TurnEstimatorModel", name := "isScalable", desc := "(I)Z" } : Jvm.MethodName)) ∈ lw_tbl := lw_at lw_m3 210 rfl
theorem q740 : (Jvm.Cond.instanceMethod ({ cls := "TurnEstimatorModel", name := "isScalable", desc := "(I)Z" } : Jvm.MethodName)) ∈ lw_all := lw_g (lw_at lw_m3 211 rfl) rfl
theorem q741 : (Jvm.Cond.code ({ cls := "TurnEstimatorModel", name := "isScalable", desc := "(I)Z" } : Jvm.MethodName) prog_11_method_13_code (4 : Nat) (Option.some Jvm.ClassFile.FieldType.boolean)) ∈ lw_all := lw_g (lw_at lw_m3 212 rfl) rfl
theorem q742 : (Jvm.Cond.methodLink "TurnEstimatorModel" (62 : Nat) ({ cls := "TurnEstimatorModel", name := "scaled", desc := "(II)I" } : Jvm.MethodName)) ∈ lw_all := lw_g (lw_at lw_m3 213 rfl) rfl
theorem q743 : (Jvm.Cond.static ({ cls := "TurnEstimatorModel", name := "scaled", desc := "(II)I" } : Jvm.MethodName)) ∈ lw_all := lw_g (lw_at lw_m3 214 rfl) rfl
theorem q744 : (Jvm.Cond.code ({ cls := "TurnEstimatorModel", name := "scaled", desc := "(II)I" } : Jvm.MethodName) prog_11_method_12_code (2 : Nat) (Option.some Jvm.ClassFile.FieldType.int)) ∈ lw_all := lw_g (lw_at lw_m3 215 rfl) rfl
theorem q746 : (Jvm.Cond.instanceMethod ({ cls := "TurnEstimatorModel", name := "imbalance", desc := "()I" } : Jvm.MethodName)) ∈ lw_all := lw_g (lw_at lw_m3 217 rfl) rfl
theorem q747 : (Jvm.Cond.selects "TurnEstimatorModel" ({ cls := "TurnEstimatorModel", name := "imbalance", desc := "()I" } : Jvm.MethodName) ({ cls := "TurnEstimatorModel", name := "imbalance", desc := "()I" } : Jvm.MethodName)) ∈ lw_all := lw_g (lw_at lw_m3 218 rfl) rfl
theorem q748 : (Jvm.Cond.code ({ cls := "TurnEstimatorModel", name := "imbalance", desc := "()I" } : Jvm.MethodName) prog_11_method_16_code (1 : Nat) (Option.some Jvm.ClassFile.FieldType.int)) ∈ lw_all := lw_g (lw_at lw_m3 219 rfl) rfl
theorem q749 : (Jvm.Cond.methodLink "TurnEstimatorModel" (69 : Nat) ({ cls := "TurnEstimatorModel", name := "difference", desc := "()I" } : Jvm.MethodName)) ∈ lw_all := lw_g (lw_at lw_m3 220 rfl) rfl
theorem q750 : (Jvm.Cond.privateMethod ({ cls := "TurnEstimatorModel", name := "difference", desc := "()I" } : Jvm.MethodName)) ∈ lw_tbl := lw_at lw_m3 221 rfl
theorem q751 : (Jvm.Cond.instanceMethod ({ cls := "TurnEstimatorModel", name := "difference", desc := "()I" } : Jvm.MethodName)) ∈ lw_all := lw_g (lw_at lw_m3 222 rfl) rfl
theorem q752 : (Jvm.Cond.code ({ cls := "TurnEstimatorModel", name := "difference", desc := "()I" } : Jvm.MethodName) prog_11_method_15_code (3 : Nat) (Option.some Jvm.ClassFile.FieldType.int)) ∈ lw_all := lw_g (lw_at lw_m3 223 rfl) rfl
theorem q754 : (Jvm.Cond.instanceMethod ({ cls := "TurnEstimatorModel", name := "isPossible", desc := "()Z" } : Jvm.MethodName)) ∈ lw_all := lw_g (lw_at lw_m3 225 rfl) rfl
theorem q755 : (Jvm.Cond.selects "TurnEstimatorModel" ({ cls := "TurnEstimatorModel", name := "isPossible", desc := "()Z" } : Jvm.MethodName) ({ cls := "TurnEstimatorModel", name := "isPossible", desc := "()Z" } : Jvm.MethodName)) ∈ lw_all := lw_g (lw_at lw_m3 226 rfl) rfl
theorem q756 : (Jvm.Cond.code ({ cls := "TurnEstimatorModel", name := "isPossible", desc := "()Z" } : Jvm.MethodName) prog_11_method_20_code (1 : Nat) (Option.some Jvm.ClassFile.FieldType.boolean)) ∈ lw_all := lw_g (lw_at lw_m3 227 rfl) rfl
theorem q757 : (Jvm.Cond.methodLink "TurnEstimatorModel" (80 : Nat) ({ cls := "TurnEstimatorModel", name := "arePossible", desc := "()Z" } : Jvm.MethodName)) ∈ lw_all := lw_g (lw_at lw_m3 228 rfl) rfl
theorem q758 : (Jvm.Cond.privateMethod ({ cls := "TurnEstimatorModel", name := "arePossible", desc := "()Z" } : Jvm.MethodName)) ∈ lw_tbl := lw_at lw_m3 229 rfl
theorem q759 : (Jvm.Cond.instanceMethod ({ cls := "TurnEstimatorModel", name := "arePossible", desc := "()Z" } : Jvm.MethodName)) ∈ lw_all := lw_g (lw_at lw_m3 230 rfl) rfl
theorem q760 : (Jvm.Cond.code ({ cls := "TurnEstimatorModel", name := "arePossible", desc := "()Z" } : Jvm.MethodName) prog_11_method_19_code (1 : Nat) (Option.some Jvm.ClassFile.FieldType.boolean)) ∈ lw_all := lw_g (lw_at lw_m3 231 rfl) rfl
theorem q761 : (Jvm.Cond.methodLink "TurnEstimatorModel" (77 : Nat) ({ cls := "TurnEstimatorModel", name := "crowded", desc := "()I" } : Jvm.MethodName)) ∈ lw_all := lw_g (lw_at lw_m3 232 rfl) rfl
theorem q762 : (Jvm.Cond.privateMethod ({ cls := "TurnEstimatorModel", name := "crowded", desc := "()I" } : Jvm.MethodName)) ∈ lw_tbl := lw_at lw_m3 233 rfl
theorem q763 : (Jvm.Cond.instanceMethod ({ cls := "TurnEstimatorModel", name := "crowded", desc := "()I" } : Jvm.MethodName)) ∈ lw_all := lw_g (lw_at lw_m3 234 rfl) rfl
theorem q764 : (Jvm.Cond.code ({ cls := "TurnEstimatorModel", name := "crowded", desc := "()I" } : Jvm.MethodName) prog_11_method_18_code (2 : Nat) (Option.some Jvm.ClassFile.FieldType.int)) ∈ lw_all := lw_g (lw_at lw_m3 235 rfl) rfl
theorem q765 : (Jvm.Cond.methodLink "TurnEstimatorModel" (73 : Nat) ({ cls := "TurnEstimatorModel", name := "excessOf", desc := "(I)I" } : Jvm.MethodName)) ∈ lw_all := lw_g (lw_at lw_m3 236 rfl) rfl
theorem q766 : (Jvm.Cond.privateMethod ({ cls := "TurnEstimatorModel", name := "excessOf", desc := "(I)I" } : Jvm.MethodName)) ∈ lw_tbl := lw_at lw_m3 237 rfl
theorem q767 : (Jvm.Cond.instanceMethod ({ cls := "TurnEstimatorModel", name := "excessOf", desc := "(I)I" } : Jvm.MethodName)) ∈ lw_all := lw_g (lw_at lw_m3 238 rfl) rfl
theorem q768 : (Jvm.Cond.code ({ cls := "TurnEstimatorModel", name := "excessOf", desc := "(I)I" } : Jvm.MethodName) prog_11_method_17_code (6 : Nat) (Option.some Jvm.ClassFile.FieldType.int)) ∈ lw_all := lw_g (lw_at lw_m3 239 rfl) rfl
theorem q770 : (Jvm.Cond.instanceMethod ({ cls := "TurnEstimatorModel", name := "crowdedSet", desc := "()I" } : Jvm.MethodName)) ∈ lw_all := lw_g (lw_at lw_m4 1 rfl) rfl
theorem q771 : (Jvm.Cond.selects "TurnEstimatorModel" ({ cls := "TurnEstimatorModel", name := "crowdedSet", desc := "()I" } : Jvm.MethodName) ({ cls := "TurnEstimatorModel", name := "crowdedSet", desc := "()I" } : Jvm.MethodName)) ∈ lw_all := lw_g (lw_at lw_m4 2 rfl) rfl
theorem q772 : (Jvm.Cond.code ({ cls := "TurnEstimatorModel", name := "crowdedSet", desc := "()I" } : Jvm.MethodName) prog_11_method_21_code (1 : Nat) (Option.some Jvm.ClassFile.FieldType.int)) ∈ lw_all := lw_g (lw_at lw_m4 3 rfl) rfl
theorem q774 : (Jvm.Cond.instanceMethod ({ cls := "TurnEstimatorModel", name := "excess", desc := "(I)I" } : Jvm.MethodName)) ∈ lw_all := lw_g (lw_at lw_m4 5 rfl) rfl
theorem q775 : (Jvm.Cond.selects "TurnEstimatorModel" ({ cls := "TurnEstimatorModel", name := "excess", desc := "(I)I" } : Jvm.MethodName) ({ cls := "TurnEstimatorModel", name := "excess", desc := "(I)I" } : Jvm.MethodName)) ∈ lw_all := lw_g (lw_at lw_m4 6 rfl) rfl
theorem q776 : (Jvm.Cond.code ({ cls := "TurnEstimatorModel", name := "excess", desc := "(I)I" } : Jvm.MethodName) prog_11_method_22_code (2 : Nat) (Option.some Jvm.ClassFile.FieldType.int)) ∈ lw_all := lw_g (lw_at lw_m4 7 rfl) rfl
theorem q778 : (Jvm.Cond.instanceMethod ({ cls := "TurnEstimatorModel", name := "iterate", desc := "(I)I" } : Jvm.MethodName)) ∈ lw_all := lw_g (lw_at lw_m4 9 rfl) rfl
theorem q779 : (Jvm.Cond.selects "TurnEstimatorModel" ({ cls := "TurnEstimatorModel", name := "iterate", desc := "(I)I" } : Jvm.MethodName) ({ cls := "TurnEstimatorModel", name := "iterate", desc := "(I)I" } : Jvm.MethodName)) ∈ lw_all := lw_g (lw_at lw_m4 10 rfl) rfl
theorem q780 : (Jvm.Cond.code ({ cls := "TurnEstimatorModel", name := "iterate", desc := "(I)I" } : Jvm.MethodName) prog_11_method_30_code (3 : Nat) (Option.some Jvm.ClassFile.FieldType.int)) ∈ lw_all := lw_g (lw_at lw_m4 11 rfl) rfl
theorem q781 : (Jvm.Cond.methodLink "TurnEstimatorModel" (102 : Nat) ({ cls := "TurnEstimatorModel", name := "oneRound", desc := "()V" } : Jvm.MethodName)) ∈ lw_all := lw_g (lw_at lw_m4 12 rfl) rfl
theorem q782 : (Jvm.Cond.privateMethod ({ cls := "TurnEstimatorModel", name := "oneRound", desc := "()V" } : Jvm.MethodName)) ∈ lw_tbl := lw_at lw_m4 13 rfl
theorem q783 : (Jvm.Cond.instanceMethod ({ cls := "TurnEstimatorModel", name := "oneRound", desc := "()V" } : Jvm.MethodName)) ∈ lw_all := lw_g (lw_at lw_m4 14 rfl) rfl
theorem q784 : (Jvm.Cond.code ({ cls := "TurnEstimatorModel", name := "oneRound", desc := "()V" } : Jvm.MethodName) prog_11_method_27_code (2 : Nat) (Option.none : Option Jvm.ClassFile.FieldType)) ∈ lw_all := lw_g (lw_at lw_m4 15 rfl) rfl
theorem q785 : (Jvm.Cond.methodLink "TurnEstimatorModel" (91 : Nat) ({ cls := "TurnEstimatorModel", name := "rowStep", desc := "(I)V" } : Jvm.MethodName)) ∈ lw_all := lw_g (lw_at lw_m4 16 rfl) rfl
theorem q786 : (Jvm.Cond.privateMethod ({ cls := "TurnEstimatorModel", name := "rowStep", desc := "(I)V" } : Jvm.MethodName)) ∈ lw_tbl := lw_at lw_m4 17 rfl
theorem q787 : (Jvm.Cond.instanceMethod ({ cls := "TurnEstimatorModel", name := "rowStep", desc := "(I)V" } : Jvm.MethodName)) ∈ lw_all := lw_g (lw_at lw_m4 18 rfl) rfl
theorem q788 : (Jvm.Cond.code ({ cls := "TurnEstimatorModel", name := "rowStep", desc := "(I)V" } : Jvm.MethodName) prog_11_method_25_code (7 : Nat) (Option.none : Option Jvm.ClassFile.FieldType)) ∈ lw_all := lw_g (lw_at lw_m4 19 rfl) rfl
theorem q789 : (Jvm.Cond.methodLink "TurnEstimatorModel" (84 : Nat) ({ cls := "TurnEstimatorModel", name := "rowSum", desc := "(I)D" } : Jvm.MethodName)) ∈ lw_all := lw_g (lw_at lw_m4 20 rfl) rfl
theorem q790 : (Jvm.Cond.privateMethod ({ cls := "TurnEstimatorModel", name := "rowSum", desc := "(I)D" } : Jvm.MethodName)) ∈ lw_tbl := lw_at lw_m4 21 rfl
theorem q791 : (Jvm.Cond.instanceMethod ({ cls := "TurnEstimatorModel", name := "rowSum", desc := "(I)D" } : Jvm.MethodName)) ∈ lw_all := lw_g (lw_at lw_m4 22 rfl) rfl
theorem q792 : (Jvm.Cond.code ({ cls := "TurnEstimatorModel", name := "rowSum", desc := "(I)D" } : Jvm.MethodName) prog_11_method_23_code (5 : Nat) (Option.some Jvm.ClassFile.FieldType.double)) ∈ lw_all := lw_g (lw_at lw_m4 23 rfl) rfl
theorem q793 : (Jvm.Cond.methodLink "TurnEstimatorModel" (95 : Nat) ({ cls := "TurnEstimatorModel", name := "columnStep", desc := "(I)V" } : Jvm.MethodName)) ∈ lw_all := lw_g (lw_at lw_m4 24 rfl) rfl
theorem q794 : (Jvm.Cond.privateMethod ({ cls := "TurnEstimatorModel", name := "columnStep", desc := "(I)V" } : Jvm.MethodName)) ∈ lw_tbl := lw_at lw_m4 25 rfl
theorem q795 : (Jvm.Cond.instanceMethod ({ cls := "TurnEstimatorModel", name := "columnStep", desc := "(I)V" } : Jvm.MethodName)) ∈ lw_all := lw_g (lw_at lw_m4 26 rfl) rfl
theorem q796 : (Jvm.Cond.code ({ cls := "TurnEstimatorModel", name := "columnStep", desc := "(I)V" } : Jvm.MethodName) prog_11_method_26_code (7 : Nat) (Option.none : Option Jvm.ClassFile.FieldType)) ∈ lw_all := lw_g (lw_at lw_m4 27 rfl) rfl
theorem q797 : (Jvm.Cond.methodLink "TurnEstimatorModel" (88 : Nat) ({ cls := "TurnEstimatorModel", name := "columnSum", desc := "(I)D" } : Jvm.MethodName)) ∈ lw_all := lw_g (lw_at lw_m4 28 rfl) rfl
theorem q798 : (Jvm.Cond.privateMethod ({ cls := "TurnEstimatorModel", name := "columnSum", desc := "(I)D" } : Jvm.MethodName)) ∈ lw_tbl := lw_at lw_m4 29 rfl
theorem q799 : (Jvm.Cond.instanceMethod ({ cls := "TurnEstimatorModel", name := "columnSum", desc := "(I)D" } : Jvm.MethodName)) ∈ lw_all := lw_g (lw_at lw_m4 30 rfl) rfl
theorem q800 : (Jvm.Cond.code ({ cls := "TurnEstimatorModel", name := "columnSum", desc := "(I)D" } : Jvm.MethodName) prog_11_method_24_code (5 : Nat) (Option.some Jvm.ClassFile.FieldType.double)) ∈ lw_all := lw_g (lw_at lw_m4 31 rfl) rfl
theorem q802 : (Jvm.Cond.instanceMethod ({ cls := "TurnEstimatorModel", name := "fit", desc := "(II)I" } : Jvm.MethodName)) ∈ lw_all := lw_g (lw_at lw_m4 33 rfl) rfl
theorem q803 : (Jvm.Cond.selects "TurnEstimatorModel" ({ cls := "TurnEstimatorModel", name := "fit", desc := "(II)I" } : Jvm.MethodName) ({ cls := "TurnEstimatorModel", name := "fit", desc := "(II)I" } : Jvm.MethodName)) ∈ lw_all := lw_g (lw_at lw_m4 34 rfl) rfl
theorem q804 : (Jvm.Cond.code ({ cls := "TurnEstimatorModel", name := "fit", desc := "(II)I" } : Jvm.MethodName) prog_11_method_31_code (4 : Nat) (Option.some Jvm.ClassFile.FieldType.int)) ∈ lw_all := lw_g (lw_at lw_m4 35 rfl) rfl
theorem q805 : (Jvm.Cond.constant "TurnEstimatorModel" (105 : Nat) (100000 : Int32)) ∈ lw_all := lw_g (lw_at lw_m4 36 rfl) rfl
theorem q806 : (Jvm.Cond.methodLink "TurnEstimatorModel" (106 : Nat) ({ cls := "TurnEstimatorModel", name := "misfitNow", desc := "()D" } : Jvm.MethodName)) ∈ lw_all := lw_g (lw_at lw_m4 37 rfl) rfl
theorem q807 : (Jvm.Cond.privateMethod ({ cls := "TurnEstimatorModel", name := "misfitNow", desc := "()D" } : Jvm.MethodName)) ∈ lw_tbl := lw_at lw_m4 38 rfl
theorem q808 : (Jvm.Cond.instanceMethod ({ cls := "TurnEstimatorModel", name := "misfitNow", desc := "()D" } : Jvm.MethodName)) ∈ lw_all := lw_g (lw_at lw_m4 39 rfl) rfl
theorem q809 : (Jvm.Cond.code ({ cls := "TurnEstimatorModel", name := "misfitNow", desc := "()D" } : Jvm.MethodName) prog_11_method_29_code (8 : Nat) (Option.some Jvm.ClassFile.FieldType.double)) ∈ lw_all := lw_g (lw_at lw_m4 40 rfl) rfl
theorem q810 : (Jvm.Cond.methodLink "TurnEstimatorModel" (98 : Nat) ({ cls := "TurnEstimatorModel", name := "far", desc := "(DD)D" } : Jvm.MethodName)) ∈ lw_all := lw_g (lw_at lw_m4 41 rfl) rfl
theorem q811 : (Jvm.Cond.static ({ cls := "TurnEstimatorModel", name := "far", desc := "(DD)D" } : Jvm.MethodName)) ∈ lw_all := lw_g (lw_at lw_m4 42 rfl) rfl
theorem q812 : (Jvm.Cond.code ({ cls := "TurnEstimatorModel", name := "far", desc := "(DD)D" } : Jvm.MethodName) prog_11_method_28_code (4 : Nat) (Option.some Jvm.ClassFile.FieldType.double)) ∈ lw_all := lw_g (lw_at lw_m4 43 rfl) rfl
theorem q813 : (Jvm.Cond.constantDouble "TurnEstimatorModel" (110 : Nat) (4652007308841189376 : UInt64)) ∈ lw_all := lw_g (lw_at lw_m4 44 rfl) rfl
theorem q815 : (Jvm.Cond.instanceMethod ({ cls := "TurnEstimatorModel", name := "reset", desc := "()I" } : Jvm.MethodName)) ∈ lw_all := lw_g (lw_at lw_m4 46 rfl) rfl
theorem q816 : (Jvm.Cond.selects "TurnEstimatorModel" ({ cls := "TurnEstimatorModel", name := "reset", desc := "()I" } : Jvm.MethodName) ({ cls := "TurnEstimatorModel", name := "reset", desc := "()I" } : Jvm.MethodName)) ∈ lw_all := lw_g (lw_at lw_m4 47 rfl) rfl
theorem q817 : (Jvm.Cond.code ({ cls := "TurnEstimatorModel", name := "reset", desc := "()I" } : Jvm.MethodName) prog_11_method_32_code (2 : Nat) (Option.some Jvm.ClassFile.FieldType.int)) ∈ lw_all := lw_g (lw_at lw_m4 48 rfl) rfl
theorem q819 : (Jvm.Cond.instanceMethod ({ cls := "TurnEstimatorModel", name := "rounds", desc := "()I" } : Jvm.MethodName)) ∈ lw_all := lw_g (lw_at lw_m4 50 rfl) rfl
theorem q820 : (Jvm.Cond.selects "TurnEstimatorModel" ({ cls := "TurnEstimatorModel", name := "rounds", desc := "()I" } : Jvm.MethodName) ({ cls := "TurnEstimatorModel", name := "rounds", desc := "()I" } : Jvm.MethodName)) ∈ lw_all := lw_g (lw_at lw_m4 51 rfl) rfl
theorem q821 : (Jvm.Cond.code ({ cls := "TurnEstimatorModel", name := "rounds", desc := "()I" } : Jvm.MethodName) prog_11_method_33_code (1 : Nat) (Option.some Jvm.ClassFile.FieldType.int)) ∈ lw_all := lw_g (lw_at lw_m4 52 rfl) rfl
theorem q823 : (Jvm.Cond.instanceMethod ({ cls := "TurnEstimatorModel", name := "estimate", desc := "(II)D" } : Jvm.MethodName)) ∈ lw_all := lw_g (lw_at lw_m4 54 rfl) rfl
theorem q824 : (Jvm.Cond.selects "TurnEstimatorModel" ({ cls := "TurnEstimatorModel", name := "estimate", desc := "(II)D" } : Jvm.MethodName) ({ cls := "TurnEstimatorModel", name := "estimate", desc := "(II)D" } : Jvm.MethodName)) ∈ lw_all := lw_g (lw_at lw_m4 55 rfl) rfl
theorem q825 : (Jvm.Cond.code ({ cls := "TurnEstimatorModel", name := "estimate", desc := "(II)D" } : Jvm.MethodName) prog_11_method_35_code (3 : Nat) (Option.some Jvm.ClassFile.FieldType.double)) ∈ lw_all := lw_g (lw_at lw_m4 56 rfl) rfl
theorem q826 : (Jvm.Cond.methodLink "TurnEstimatorModel" (112 : Nat) ({ cls := "TurnEstimatorModel", name := "areArms", desc := "(II)Z" } : Jvm.MethodName)) ∈ lw_all := lw_g (lw_at lw_m4 57 rfl) rfl
theorem q827 : (Jvm.Cond.privateMethod ({ cls := "TurnEstimatorModel", name := "areArms", desc := "(II)Z" } : Jvm.MethodName)) ∈ lw_tbl := lw_at lw_m4 58 rfl
theorem q828 : (Jvm.Cond.instanceMethod ({ cls := "TurnEstimatorModel", name := "areArms", desc := "(II)Z" } : Jvm.MethodName)) ∈ lw_all := lw_g (lw_at lw_m4 59 rfl) rfl
theorem q829 : (Jvm.Cond.code ({ cls := "TurnEstimatorModel", name := "areArms", desc := "(II)Z" } : Jvm.MethodName) prog_11_method_34_code (3 : Nat) (Option.some Jvm.ClassFile.FieldType.boolean)) ∈ lw_all := lw_g (lw_at lw_m4 60 rfl) rfl
theorem q831 : (Jvm.Cond.instanceMethod ({ cls := "TurnEstimatorModel", name := "sum", desc := "(IZ)D" } : Jvm.MethodName)) ∈ lw_all := lw_g (lw_at lw_m4 62 rfl) rfl
theorem q832 : (Jvm.Cond.selects "TurnEstimatorModel" ({ cls := "TurnEstimatorModel", name := "sum", desc := "(IZ)D" } : Jvm.MethodName) ({ cls := "TurnEstimatorModel", name := "sum", desc := "(IZ)D" } : Jvm.MethodName)) ∈ lw_all := lw_g (lw_at lw_m4 63 rfl) rfl
theorem q833 : (Jvm.Cond.code ({ cls := "TurnEstimatorModel", name := "sum", desc := "(IZ)D" } : Jvm.MethodName) prog_11_method_36_code (3 : Nat) (Option.some Jvm.ClassFile.FieldType.double)) ∈ lw_all := lw_g (lw_at lw_m4 64 rfl) rfl
theorem q835 : (Jvm.Cond.instanceMethod ({ cls := "TurnEstimatorModel", name := "misfit", desc := "()D" } : Jvm.MethodName)) ∈ lw_all := lw_g (lw_at lw_m4 66 rfl) rfl
theorem q836 : (Jvm.Cond.selects "TurnEstimatorModel" ({ cls := "TurnEstimatorModel", name := "misfit", desc := "()D" } : Jvm.MethodName) ({ cls := "TurnEstimatorModel", name := "misfit", desc := "()D" } : Jvm.MethodName)) ∈ lw_all := lw_g (lw_at lw_m4 67 rfl) rfl
theorem q837 : (Jvm.Cond.code ({ cls := "TurnEstimatorModel", name := "misfit", desc := "()D" } : Jvm.MethodName) prog_11_method_37_code (1 : Nat) (Option.some Jvm.ClassFile.FieldType.double)) ∈ lw_all := lw_g (lw_at lw_m4 68 rfl) rfl
theorem q839 : (Jvm.Cond.instanceMethod ({ cls := "TurnEstimatorModel", name := "share", desc := "(II)D" } : Jvm.MethodName)) ∈ lw_all := lw_g (lw_at lw_m4 70 rfl) rfl
theorem q840 : (Jvm.Cond.selects "TurnEstimatorModel" ({ cls := "TurnEstimatorModel", name := "share", desc := "(II)D" } : Jvm.MethodName) ({ cls := "TurnEstimatorModel", name := "share", desc := "(II)D" } : Jvm.MethodName)) ∈ lw_all := lw_g (lw_at lw_m4 71 rfl) rfl
theorem q841 : (Jvm.Cond.code ({ cls := "TurnEstimatorModel", name := "share", desc := "(II)D" } : Jvm.MethodName) prog_11_method_38_code (3 : Nat) (Option.some Jvm.ClassFile.FieldType.double)) ∈ lw_all := lw_g (lw_at lw_m4 72 rfl) rfl
theorem q843 : (Jvm.Cond.instanceMethod ({ cls := "TurnEstimatorModel", name := "crossRatio", desc := "(IIII)D" } : Jvm.MethodName)) ∈ lw_all := lw_g (lw_at lw_m4 74 rfl) rfl
theorem q844 : (Jvm.Cond.selects "TurnEstimatorModel" ({ cls := "TurnEstimatorModel", name := "crossRatio", desc := "(IIII)D" } : Jvm.MethodName) ({ cls := "TurnEstimatorModel", name := "crossRatio", desc := "(IIII)D" } : Jvm.MethodName)) ∈ lw_all := lw_g (lw_at lw_m4 75 rfl) rfl
theorem q845 : (Jvm.Cond.code ({ cls := "TurnEstimatorModel", name := "crossRatio", desc := "(IIII)D" } : Jvm.MethodName) prog_11_method_39_code (9 : Nat) (Option.some Jvm.ClassFile.FieldType.double)) ∈ lw_all := lw_g (lw_at lw_m4 76 rfl) rfl
theorem q847 : (Jvm.Cond.instanceMethod ({ cls := "TurnEstimatorModel", name := "busiestTurn", desc := "()I" } : Jvm.MethodName)) ∈ lw_all := lw_g (lw_at lw_m4 78 rfl) rfl
theorem q848 : (Jvm.Cond.selects "TurnEstimatorModel" ({ cls := "TurnEstimatorModel", name := "busiestTurn", desc := "()I" } : Jvm.MethodName) ({ cls := "TurnEstimatorModel", name := "busiestTurn", desc := "()I" } : Jvm.MethodName)) ∈ lw_all := lw_g (lw_at lw_m4 79 rfl) rfl
theorem q849 : (Jvm.Cond.code ({ cls := "TurnEstimatorModel", name := "busiestTurn", desc := "()I" } : Jvm.MethodName) prog_11_method_41_code (1 : Nat) (Option.some Jvm.ClassFile.FieldType.int)) ∈ lw_all := lw_g (lw_at lw_m4 80 rfl) rfl
theorem q850 : (Jvm.Cond.methodLink "TurnEstimatorModel" (116 : Nat) ({ cls := "TurnEstimatorModel", name := "busiest", desc := "()I" } : Jvm.MethodName)) ∈ lw_all := lw_g (lw_at lw_m4 81 rfl) rfl
theorem q851 : (Jvm.Cond.privateMethod ({ cls := "TurnEstimatorModel", name := "busiest", desc := "()I" } : Jvm.MethodName)) ∈ lw_tbl := lw_at lw_m4 82 rfl
theorem q852 : (Jvm.Cond.instanceMethod ({ cls := "TurnEstimatorModel", name := "busiest", desc := "()I" } : Jvm.MethodName)) ∈ lw_all := lw_g (lw_at lw_m4 83 rfl) rfl
theorem q853 : (Jvm.Cond.code ({ cls := "TurnEstimatorModel", name := "busiest", desc := "()I" } : Jvm.MethodName) prog_11_method_40_code (8 : Nat) (Option.some Jvm.ClassFile.FieldType.int)) ∈ lw_all := lw_g (lw_at lw_m4 84 rfl) rfl
theorem q855 : (Jvm.Cond.instanceMethod ({ cls := "TurnEstimatorModel", name := "rounded", desc := "(II)I" } : Jvm.MethodName)) ∈ lw_all := lw_g (lw_at lw_m4 86 rfl) rfl
theorem q856 : (Jvm.Cond.selects "TurnEstimatorModel" ({ cls := "TurnEstimatorModel", name := "rounded", desc := "(II)I" } : Jvm.MethodName) ({ cls := "TurnEstimatorModel", name := "rounded", desc := "(II)I" } : Jvm.MethodName)) ∈ lw_all := lw_g (lw_at lw_m4 87 rfl) rfl
theorem q857 : (Jvm.Cond.code ({ cls := "TurnEstimatorModel", name := "rounded", desc := "(II)I" } : Jvm.MethodName) prog_11_method_45_code (3 : Nat) (Option.some Jvm.ClassFile.FieldType.int)) ∈ lw_all := lw_g (lw_at lw_m4 88 rfl) rfl
theorem q858 : (Jvm.Cond.methodLink "TurnEstimatorModel" (124 : Nat) ({ cls := "TurnEstimatorModel", name := "roundRow", desc := "(I)V" } : Jvm.MethodName)) ∈ lw_all := lw_g (lw_at lw_m4 89 rfl) rfl
theorem q859 : (Jvm.Cond.privateMethod ({ cls := "TurnEstimatorModel", name := "roundRow", desc := "(I)V" } : Jvm.MethodName)) ∈ lw_tbl := lw_at lw_m4 90 rfl
theorem q860 : (Jvm.Cond.instanceMethod ({ cls := "TurnEstimatorModel", name := "roundRow", desc := "(I)V" } : Jvm.MethodName)) ∈ lw_all := lw_g (lw_at lw_m4 91 rfl) rfl
theorem q861 : (Jvm.Cond.code ({ cls := "TurnEstimatorModel", name := "roundRow", desc := "(I)V" } : Jvm.MethodName) prog_11_method_43_code (8 : Nat) (Option.none : Option Jvm.ClassFile.FieldType)) ∈ lw_all := lw_g (lw_at lw_m4 92 rfl) rfl
theorem q862 : (Jvm.Cond.methodLink "TurnEstimatorModel" (119 : Nat) ({ cls := "TurnEstimatorModel", name := "nextOf", desc := "(I)I" } : Jvm.MethodName)) ∈ lw_all := lw_g (lw_at lw_m4 93 rfl) rfl
theorem q863 : (Jvm.Cond.privateMethod ({ cls := "TurnEstimatorModel", name := "nextOf", desc := "(I)I" } : Jvm.MethodName)) ∈ lw_tbl := lw_at lw_m4 94 rfl
theorem q864 : (Jvm.Cond.instanceMethod ({ cls := "TurnEstimatorModel", name := "nextOf", desc := "(I)I" } : Jvm.MethodName)) ∈ lw_all := lw_g (lw_at lw_m4 95 rfl) rfl
theorem q865 : (Jvm.Cond.code ({ cls := "TurnEstimatorModel", name := "nextOf", desc := "(I)I" } : Jvm.MethodName) prog_11_method_42_code (5 : Nat) (Option.some Jvm.ClassFile.FieldType.int)) ∈ lw_all := lw_g (lw_at lw_m4 96 rfl) rfl
theorem q866 : (Jvm.Cond.constantDouble "TurnEstimatorModel" (122 : Nat) (13830554455654793216 : UInt64)) ∈ lw_all := lw_g (lw_at lw_m4 97 rfl) rfl
theorem q868 : (Jvm.Cond.instanceMethod ({ cls := "TurnEstimatorModel", name := "roundedMisfit", desc := "()I" } : Jvm.MethodName)) ∈ lw_all := lw_g (lw_at lw_m4 99 rfl) rfl
theorem q869 : (Jvm.Cond.selects "TurnEstimatorModel" ({ cls := "TurnEstimatorModel", name := "roundedMisfit", desc := "()I" } : Jvm.MethodName) ({ cls := "TurnEstimatorModel", name := "roundedMisfit", desc := "()I" } : Jvm.MethodName)) ∈ lw_all := lw_g (lw_at lw_m4 100 rfl) rfl
theorem q870 : (Jvm.Cond.code ({ cls := "TurnEstimatorModel", name := "roundedMisfit", desc := "()I" } : Jvm.MethodName) prog_11_method_47_code (1 : Nat) (Option.some Jvm.ClassFile.FieldType.int)) ∈ lw_all := lw_g (lw_at lw_m4 101 rfl) rfl
theorem q871 : (Jvm.Cond.methodLink "TurnEstimatorModel" (130 : Nat) ({ cls := "TurnEstimatorModel", name := "wholeMisfit", desc := "()I" } : Jvm.MethodName)) ∈ lw_all := lw_g (lw_at lw_m4 102 rfl) rfl
theorem q872 : (Jvm.Cond.privateMethod ({ cls := "TurnEstimatorModel", name := "wholeMisfit", desc := "()I" } : Jvm.MethodName)) ∈ lw_tbl := lw_at lw_m4 103 rfl
theorem q873 : (Jvm.Cond.instanceMethod ({ cls := "TurnEstimatorModel", name := "wholeMisfit", desc := "()I" } : Jvm.MethodName)) ∈ lw_all := lw_g (lw_at lw_m4 104 rfl) rfl
theorem q874 : (Jvm.Cond.code ({ cls := "TurnEstimatorModel", name := "wholeMisfit", desc := "()I" } : Jvm.MethodName) prog_11_method_46_code (5 : Nat) (Option.some Jvm.ClassFile.FieldType.int)) ∈ lw_all := lw_g (lw_at lw_m4 105 rfl) rfl
theorem q875 : (Jvm.Cond.methodLink "TurnEstimatorModel" (127 : Nat) ({ cls := "TurnEstimatorModel", name := "layWhole", desc := "()V" } : Jvm.MethodName)) ∈ lw_all := lw_g (lw_at lw_m4 106 rfl) rfl
theorem q876 : (Jvm.Cond.privateMethod ({ cls := "TurnEstimatorModel", name := "layWhole", desc := "()V" } : Jvm.MethodName)) ∈ lw_tbl := lw_at lw_m4 107 rfl
theorem q877 : (Jvm.Cond.instanceMethod ({ cls := "TurnEstimatorModel", name := "layWhole", desc := "()V" } : Jvm.MethodName)) ∈ lw_all := lw_g (lw_at lw_m4 108 rfl) rfl
theorem q878 : (Jvm.Cond.code ({ cls := "TurnEstimatorModel", name := "layWhole", desc := "()V" } : Jvm.MethodName) prog_11_method_44_code (2 : Nat) (Option.none : Option Jvm.ClassFile.FieldType)) ∈ lw_all := lw_g (lw_at lw_m4 109 rfl) rfl
theorem q880 : (Jvm.Cond.instanceMethod ({ cls := "TurnEstimatorModel", name := "possible", desc := "(II)I" } : Jvm.MethodName)) ∈ lw_all := lw_g (lw_at lw_m4 111 rfl) rfl
theorem q881 : (Jvm.Cond.selects "TurnEstimatorModel" ({ cls := "TurnEstimatorModel", name := "possible", desc := "(II)I" } : Jvm.MethodName) ({ cls := "TurnEstimatorModel", name := "possible", desc := "(II)I" } : Jvm.MethodName)) ∈ lw_all := lw_g (lw_at lw_m4 112 rfl) rfl
theorem q882 : (Jvm.Cond.code ({ cls := "TurnEstimatorModel", name := "possible", desc := "(II)I" } : Jvm.MethodName) prog_11_method_52_code (3 : Nat) (Option.some Jvm.ClassFile.FieldType.int)) ∈ lw_all := lw_g (lw_at lw_m4 113 rfl) rfl
theorem q883 : (Jvm.Cond.methodLink "TurnEstimatorModel" (143 : Nat) ({ cls := "TurnEstimatorModel", name := "possibleNow", desc := "(II)I" } : Jvm.MethodName)) ∈ lw_all := lw_g (lw_at lw_m4 114 rfl) rfl
theorem q884 : (Jvm.Cond.privateMethod ({ cls := "TurnEstimatorModel", name := "possibleNow", desc := "(II)I" } : Jvm.MethodName)) ∈ lw_tbl := lw_at lw_m4 115 rfl
theorem q885 : (Jvm.Cond.instanceMethod ({ cls := "TurnEstimatorModel", name := "possibleNow", desc := "(II)I" } : Jvm.MethodName)) ∈ lw_all := lw_g (lw_at lw_m4 116 rfl) rfl
theorem q886 : (Jvm.Cond.code ({ cls := "TurnEstimatorModel", name := "possibleNow", desc := "(II)I" } : Jvm.MethodName) prog_11_method_51_code (3 : Nat) (Option.some Jvm.ClassFile.FieldType.int)) ∈ lw_all := lw_g (lw_at lw_m4 117 rfl) rfl
theorem q887 : (Jvm.Cond.methodLink "TurnEstimatorModel" (140 : Nat) ({ cls := "TurnEstimatorModel", name := "layTable", desc := "()V" } : Jvm.MethodName)) ∈ lw_all := lw_g (lw_at lw_m4 118 rfl) rfl
theorem q888 : (Jvm.Cond.privateMethod ({ cls := "TurnEstimatorModel", name := "layTable", desc := "()V" } : Jvm.MethodName)) ∈ lw_tbl := lw_at lw_m4 119 rfl
theorem q889 : (Jvm.Cond.instanceMethod ({ cls := "TurnEstimatorModel", name := "layTable", desc := "()V" } : Jvm.MethodName)) ∈ lw_all := lw_g (lw_at lw_m4 120 rfl) rfl
theorem q890 : (Jvm.Cond.code ({ cls := "TurnEstimatorModel", name := "layTable", desc := "()V" } : Jvm.MethodName) prog_11_method_50_code (3 : Nat) (Option.none : Option Jvm.ClassFile.FieldType)) ∈ lw_all := lw_g (lw_at lw_m4 121 rfl) rfl
theorem q891 : (Jvm.Cond.methodLink "TurnEstimatorModel" (136 : Nat) ({ cls := "TurnEstimatorModel", name := "layCell", desc := "(II)V" } : Jvm.MethodName)) ∈ lw_all := lw_g (lw_at lw_m4 122 rfl) rfl
theorem q892 : (Jvm.Cond.privateMethod ({ cls := "TurnEstimatorModel", name := "layCell", desc := "(II)V" } : Jvm.MethodName)) ∈ lw_tbl := lw_at lw_m4 123 rfl
theorem q893 : (Jvm.Cond.instanceMethod ({ cls := "TurnEstimatorModel", name := "layCell", desc := "(II)V" } : Jvm.MethodName)) ∈ lw_all := lw_g (lw_at lw_m4 124 rfl) rfl
theorem q894 : (Jvm.Cond.code ({ cls := "TurnEstimatorModel", name := "layCell", desc := "(II)V" } : Jvm.MethodName) prog_11_method_49_code (6 : Nat) (Option.none : Option Jvm.ClassFile.FieldType)) ∈ lw_all := lw_g (lw_at lw_m4 125 rfl) rfl
theorem q895 : (Jvm.Cond.methodLink "TurnEstimatorModel" (133 : Nat) ({ cls := "TurnEstimatorModel", name := "leftBy", desc := "(II)I" } : Jvm.MethodName)) ∈ lw_all := lw_g (lw_at lw_m4 126 rfl) rfl
theorem q896 : (Jvm.Cond.privateMethod ({ cls := "TurnEstimatorModel", name := "leftBy", desc := "(II)I" } : Jvm.MethodName)) ∈ lw_tbl := lw_at lw_m4 127 rfl
theorem q897 : (Jvm.Cond.instanceMethod ({ cls := "TurnEstimatorModel", name := "leftBy", desc := "(II)I" } : Jvm.MethodName)) ∈ lw_all := lw_g (lw_at lw_m4 128 rfl) rfl
theorem q898 : (Jvm.Cond.code ({ cls := "TurnEstimatorModel", name := "leftBy", desc := "(II)I" } : Jvm.MethodName) prog_11_method_48_code (8 : Nat) (Option.some Jvm.ClassFile.FieldType.int)) ∈ lw_all := lw_g (lw_at lw_m4 129 rfl) rfl
theorem q900 : (Jvm.Cond.instanceMethod ({ cls := "TurnEstimatorModel", name := "digest", desc := "()J" } : Jvm.MethodName)) ∈ lw_all := lw_g (lw_at lw_m4 131 rfl) rfl
theorem q901 : (Jvm.Cond.selects "TurnEstimatorModel" ({ cls := "TurnEstimatorModel", name := "digest", desc := "()J" } : Jvm.MethodName) ({ cls := "TurnEstimatorModel", name := "digest", desc := "()J" } : Jvm.MethodName)) ∈ lw_all := lw_g (lw_at lw_m4 132 rfl) rfl
theorem q902 : (Jvm.Cond.code ({ cls := "TurnEstimatorModel", name := "digest", desc := "()J" } : Jvm.MethodName) prog_11_method_55_code (2 : Nat) (Option.some Jvm.ClassFile.FieldType.long)) ∈ lw_all := lw_g (lw_at lw_m4 133 rfl) rfl
theorem q903 : (Jvm.Cond.constantLong "TurnEstimatorModel" (158 : Nat) (1873 : Int64)) ∈ lw_all := lw_g (lw_at lw_m4 134 rfl) rfl
theorem q904 : (Jvm.Cond.methodLink "TurnEstimatorModel" (152 : Nat) ({ cls := "TurnEstimatorModel", name := "mix", desc := "(J)V" } : Jvm.MethodName)) ∈ lw_all := lw_g (lw_at lw_m4 135 rfl) rfl
theorem q905 : (Jvm.Cond.privateMethod ({ cls := "TurnEstimatorModel", name := "mix", desc := "(J)V" } : Jvm.MethodName)) ∈ lw_tbl := lw_at lw_m4 136 rfl
theorem q906 : (Jvm.Cond.instanceMethod ({ cls := "TurnEstimatorModel", name := "mix", desc := "(J)V" } : Jvm.MethodName)) ∈ lw_all := lw_g (lw_at lw_m4 137 rfl) rfl
theorem q907 : (Jvm.Cond.code ({ cls := "TurnEstimatorModel", name := "mix", desc := "(J)V" } : Jvm.MethodName) prog_11_method_53_code (3 : Nat) (Option.none : Option Jvm.ClassFile.FieldType)) ∈ lw_all := lw_g (lw_at lw_m4 138 rfl) rfl
theorem q908 : (Jvm.Cond.constantLong "TurnEstimatorModel" (146 : Nat) (31 : Int64)) ∈ lw_all := lw_g (lw_at lw_m4 139 rfl) rfl
theorem q909 : (Jvm.Cond.methodLink "TurnEstimatorModel" (160 : Nat) ({ cls := "TurnEstimatorModel", name := "mixTurns", desc := "()V" } : Jvm.MethodName)) ∈ lw_all := lw_g (lw_at lw_m4 140 rfl) rfl
theorem q910 : (Jvm.Cond.privateMethod ({ cls := "TurnEstimatorModel", name := "mixTurns", desc := "()V" } : Jvm.MethodName)) ∈ lw_tbl := lw_at lw_m4 141 rfl
theorem q911 : (Jvm.Cond.instanceMethod ({ cls := "TurnEstimatorModel", name := "mixTurns", desc := "()V" } : Jvm.MethodName)) ∈ lw_all := lw_g (lw_at lw_m4 142 rfl) rfl
theorem q912 : (Jvm.Cond.code ({ cls := "TurnEstimatorModel", name := "mixTurns", desc := "()V" } : Jvm.MethodName) prog_11_method_54_code (4 : Nat) (Option.none : Option Jvm.ClassFile.FieldType)) ∈ lw_all := lw_g (lw_at lw_m4 143 rfl) rfl
theorem q913 : (Jvm.Cond.constantLong "TurnEstimatorModel" (156 : Nat) (-1 : Int64)) ∈ lw_all := lw_g (lw_at lw_m4 144 rfl) rfl
theorem in_X4 : ∀ w ∈ wsX40, w ∈ lw_all := lw_in wsX40 [676, 678, 680, 682, 684, 686, 688, 690, 692, 694, 696, 698, 700] (by decide +kernel) (by decide +kernel)
